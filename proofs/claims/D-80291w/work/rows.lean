section
-- ===== PART A: goes FIRST, ahead of the names: the tables' words, and 'selects' of the private methods out of them =====
/-- a private method of a class that the tables say can be made, by its rows of tables_1 -/
def lw_okq (q : MethodName × Nat) : Prop := (q.1.cls ≠ "java/lang/invoke/MethodHandle" ∧ q.1.cls ≠ "java/lang/invoke/VarHandle") ∧ Cond.instantiable q.1.cls q.2 ∈ tables_1 ∧ Cond.privateMethod q.1 ∈ tables_1 ∧ Cond.instanceMethod q.1 ∈ tables_1
set_option maxRecDepth 100000
theorem lw_t1 {w : Cond} (h : w ∈ tables_1_1) : w ∈ tables_1 := List.mem_append_left _ h
theorem lw_t2 {w : Cond} (h : w ∈ tables_1_2) : w ∈ tables_1 := List.mem_append_right _ (List.mem_append_left _ h)
theorem lw_t3 {w : Cond} (h : w ∈ tables_1_3) : w ∈ tables_1 := List.mem_append_right _ (List.mem_append_right _ (List.mem_append_left _ h))
theorem lw_t4 {w : Cond} (h : w ∈ tables_1_4) : w ∈ tables_1 := List.mem_append_right _ (List.mem_append_right _ (List.mem_append_right _ h))
theorem lw_p0 : lw_okq (⟨"NetSearch", "renew", "()V"⟩, 33) := ⟨⟨by decide +kernel, by decide +kernel⟩, lw_t1 (List.mem_of_getElem? (i := 13) rfl), lw_t1 (List.mem_of_getElem? (i := 113) rfl), lw_t1 (List.mem_of_getElem? (i := 114) rfl)⟩
theorem lw_p1 : lw_okq (⟨"NetSearch", "cubeBy", "(III)I"⟩, 33) := ⟨⟨by decide +kernel, by decide +kernel⟩, lw_t1 (List.mem_of_getElem? (i := 13) rfl), lw_t1 (List.mem_of_getElem? (i := 117) rfl), lw_t1 (List.mem_of_getElem? (i := 118) rfl)⟩
theorem lw_p2 : lw_okq (⟨"NetSearch", "cubeAt", "(III)I"⟩, 33) := ⟨⟨by decide +kernel, by decide +kernel⟩, lw_t1 (List.mem_of_getElem? (i := 13) rfl), lw_t1 (List.mem_of_getElem? (i := 121) rfl), lw_t1 (List.mem_of_getElem? (i := 122) rfl)⟩
theorem lw_p3 : lw_okq (⟨"NetSearch", "findAcross", "(LNetSearch$Face;I)V"⟩, 33) := ⟨⟨by decide +kernel, by decide +kernel⟩, lw_t1 (List.mem_of_getElem? (i := 13) rfl), lw_t1 (List.mem_of_getElem? (i := 125) rfl), lw_t1 (List.mem_of_getElem? (i := 126) rfl)⟩
theorem lw_p4 : lw_okq (⟨"NetSearch", "faceAt", "(II)I"⟩, 33) := ⟨⟨by decide +kernel, by decide +kernel⟩, lw_t1 (List.mem_of_getElem? (i := 13) rfl), lw_t1 (List.mem_of_getElem? (i := 129) rfl), lw_t1 (List.mem_of_getElem? (i := 130) rfl)⟩
theorem lw_p5 : lw_okq (⟨"NetSearch$Sheet", "placeOf", "(II)I"⟩, 11) := ⟨⟨by decide +kernel, by decide +kernel⟩, lw_t1 (List.mem_of_getElem? (i := 38) rfl), lw_t1 (List.mem_of_getElem? (i := 141) rfl), lw_t1 (List.mem_of_getElem? (i := 142) rfl)⟩
theorem lw_p6 : lw_okq (⟨"NetSearch", "isFace", "(I)Z"⟩, 33) := ⟨⟨by decide +kernel, by decide +kernel⟩, lw_t1 (List.mem_of_getElem? (i := 13) rfl), lw_t2 (List.mem_of_getElem? (i := 28) rfl), lw_t2 (List.mem_of_getElem? (i := 29) rfl)⟩
theorem lw_p7 : lw_okq (⟨"NetSearch", "treesBy", "(J)J"⟩, 33) := ⟨⟨by decide +kernel, by decide +kernel⟩, lw_t1 (List.mem_of_getElem? (i := 13) rfl), lw_t2 (List.mem_of_getElem? (i := 43) rfl), lw_t2 (List.mem_of_getElem? (i := 44) rfl)⟩
theorem lw_p8 : lw_okq (⟨"NetSearch", "found", "()V"⟩, 33) := ⟨⟨by decide +kernel, by decide +kernel⟩, lw_t1 (List.mem_of_getElem? (i := 13) rfl), lw_t2 (List.mem_of_getElem? (i := 102) rfl), lw_t2 (List.mem_of_getElem? (i := 103) rfl)⟩
theorem lw_p9 : lw_okq (⟨"NetSearch", "keep", "()V"⟩, 33) := ⟨⟨by decide +kernel, by decide +kernel⟩, lw_t1 (List.mem_of_getElem? (i := 13) rfl), lw_t2 (List.mem_of_getElem? (i := 115) rfl), lw_t2 (List.mem_of_getElem? (i := 116) rfl)⟩
theorem lw_p10 : lw_okq (⟨"NetSearch", "imageBy", "(I)V"⟩, 33) := ⟨⟨by decide +kernel, by decide +kernel⟩, lw_t1 (List.mem_of_getElem? (i := 13) rfl), lw_t2 (List.mem_of_getElem? (i := 119) rfl), lw_t2 (List.mem_of_getElem? (i := 120) rfl)⟩
theorem lw_p11 : lw_okq (⟨"NetSearch", "back", "()V"⟩, 33) := ⟨⟨by decide +kernel, by decide +kernel⟩, lw_t1 (List.mem_of_getElem? (i := 13) rfl), lw_t2 (List.mem_of_getElem? (i := 176) rfl), lw_t2 (List.mem_of_getElem? (i := 177) rfl)⟩
theorem lw_p12 : lw_okq (⟨"NetSearch", "findBeside", "(II)V"⟩, 33) := ⟨⟨by decide +kernel, by decide +kernel⟩, lw_t1 (List.mem_of_getElem? (i := 13) rfl), lw_t2 (List.mem_of_getElem? (i := 205) rfl), lw_t2 (List.mem_of_getElem? (i := 206) rfl)⟩
theorem lw_p13 : lw_okq (⟨"NetSearch", "imageX", "(III)I"⟩, 33) := ⟨⟨by decide +kernel, by decide +kernel⟩, lw_t1 (List.mem_of_getElem? (i := 13) rfl), lw_t2 (List.mem_of_getElem? (i := 212) rfl), lw_t2 (List.mem_of_getElem? (i := 213) rfl)⟩
theorem lw_p14 : lw_okq (⟨"NetSearch", "imageY", "(III)I"⟩, 33) := ⟨⟨by decide +kernel, by decide +kernel⟩, lw_t1 (List.mem_of_getElem? (i := 13) rfl), lw_t2 (List.mem_of_getElem? (i := 216) rfl), lw_t2 (List.mem_of_getElem? (i := 217) rfl)⟩
theorem lw_p15 : lw_okq (⟨"NetSearch", "isWrapped", "(II)Z"⟩, 33) := ⟨⟨by decide +kernel, by decide +kernel⟩, lw_t1 (List.mem_of_getElem? (i := 13) rfl), lw_t2 (List.mem_of_getElem? (i := 220) rfl), lw_t2 (List.mem_of_getElem? (i := 221) rfl)⟩
def lw_privs_1 : List (MethodName × Nat) := [(⟨"NetSearch", "renew", "()V"⟩, 33), (⟨"NetSearch", "cubeBy", "(III)I"⟩, 33), (⟨"NetSearch", "cubeAt", "(III)I"⟩, 33), (⟨"NetSearch", "findAcross", "(LNetSearch$Face;I)V"⟩, 33), (⟨"NetSearch", "faceAt", "(II)I"⟩, 33), (⟨"NetSearch$Sheet", "placeOf", "(II)I"⟩, 11), (⟨"NetSearch", "isFace", "(I)Z"⟩, 33), (⟨"NetSearch", "treesBy", "(J)J"⟩, 33), (⟨"NetSearch", "found", "()V"⟩, 33), (⟨"NetSearch", "keep", "()V"⟩, 33), (⟨"NetSearch", "imageBy", "(I)V"⟩, 33), (⟨"NetSearch", "back", "()V"⟩, 33), (⟨"NetSearch", "findBeside", "(II)V"⟩, 33), (⟨"NetSearch", "imageX", "(III)I"⟩, 33), (⟨"NetSearch", "imageY", "(III)I"⟩, 33), (⟨"NetSearch", "isWrapped", "(II)Z"⟩, 33)]
theorem lw_r1 : ∀ q ∈ lw_privs_1, lw_okq q := List.forall_mem_cons.mpr ⟨lw_p0, List.forall_mem_cons.mpr ⟨lw_p1, List.forall_mem_cons.mpr ⟨lw_p2, List.forall_mem_cons.mpr ⟨lw_p3, List.forall_mem_cons.mpr ⟨lw_p4, List.forall_mem_cons.mpr ⟨lw_p5, List.forall_mem_cons.mpr ⟨lw_p6, List.forall_mem_cons.mpr ⟨lw_p7, List.forall_mem_cons.mpr ⟨lw_p8, List.forall_mem_cons.mpr ⟨lw_p9, List.forall_mem_cons.mpr ⟨lw_p10, List.forall_mem_cons.mpr ⟨lw_p11, List.forall_mem_cons.mpr ⟨lw_p12, List.forall_mem_cons.mpr ⟨lw_p13, List.forall_mem_cons.mpr ⟨lw_p14, List.forall_mem_cons.mpr ⟨lw_p15, fun _ h => absurd h List.not_mem_nil⟩⟩⟩⟩⟩⟩⟩⟩⟩⟩⟩⟩⟩⟩⟩⟩
theorem lw_p16 : lw_okq (⟨"NetSearch", "agrees", "(III)Z"⟩, 33) := ⟨⟨by decide +kernel, by decide +kernel⟩, lw_t1 (List.mem_of_getElem? (i := 13) rfl), lw_t2 (List.mem_of_getElem? (i := 224) rfl), lw_t2 (List.mem_of_getElem? (i := 225) rfl)⟩
theorem lw_p17 : lw_okq (⟨"NetSearchModel", "anew", "()V"⟩, 44) := ⟨⟨by decide +kernel, by decide +kernel⟩, lw_t2 (List.mem_of_getElem? (i := 234) rfl), lw_t3 (List.mem_of_getElem? (i := 0) rfl), lw_t3 (List.mem_of_getElem? (i := 1) rfl)⟩
theorem lw_p18 : lw_okq (⟨"NetSearchModel", "cubeBeside", "(II)I"⟩, 44) := ⟨⟨by decide +kernel, by decide +kernel⟩, lw_t2 (List.mem_of_getElem? (i := 234) rfl), lw_t3 (List.mem_of_getElem? (i := 4) rfl), lw_t3 (List.mem_of_getElem? (i := 5) rfl)⟩
theorem lw_p19 : lw_okq (⟨"NetSearchModel", "cubeAt", "(III)I"⟩, 44) := ⟨⟨by decide +kernel, by decide +kernel⟩, lw_t2 (List.mem_of_getElem? (i := 234) rfl), lw_t3 (List.mem_of_getElem? (i := 17) rfl), lw_t3 (List.mem_of_getElem? (i := 18) rfl)⟩
theorem lw_p20 : lw_okq (⟨"NetSearchModel", "found", "(II)I"⟩, 44) := ⟨⟨by decide +kernel, by decide +kernel⟩, lw_t2 (List.mem_of_getElem? (i := 234) rfl), lw_t3 (List.mem_of_getElem? (i := 21) rfl), lw_t3 (List.mem_of_getElem? (i := 22) rfl)⟩
theorem lw_p21 : lw_okq (⟨"NetSearchModel", "edge", "(II)I"⟩, 44) := ⟨⟨by decide +kernel, by decide +kernel⟩, lw_t2 (List.mem_of_getElem? (i := 234) rfl), lw_t3 (List.mem_of_getElem? (i := 25) rfl), lw_t3 (List.mem_of_getElem? (i := 26) rfl)⟩
theorem lw_p22 : lw_okq (⟨"NetSearchModel", "faceOf", "(II)I"⟩, 44) := ⟨⟨by decide +kernel, by decide +kernel⟩, lw_t2 (List.mem_of_getElem? (i := 234) rfl), lw_t3 (List.mem_of_getElem? (i := 29) rfl), lw_t3 (List.mem_of_getElem? (i := 30) rfl)⟩
theorem lw_p23 : lw_okq (⟨"NetSearchModel", "led", "(II)I"⟩, 44) := ⟨⟨by decide +kernel, by decide +kernel⟩, lw_t2 (List.mem_of_getElem? (i := 234) rfl), lw_t3 (List.mem_of_getElem? (i := 33) rfl), lw_t3 (List.mem_of_getElem? (i := 34) rfl)⟩
theorem lw_p24 : lw_okq (⟨"NetSearchModel", "isFace", "(I)Z"⟩, 44) := ⟨⟨by decide +kernel, by decide +kernel⟩, lw_t2 (List.mem_of_getElem? (i := 234) rfl), lw_t3 (List.mem_of_getElem? (i := 192) rfl), lw_t3 (List.mem_of_getElem? (i := 193) rfl)⟩
theorem lw_p25 : lw_okq (⟨"NetSearchModel", "beside", "(II)I"⟩, 44) := ⟨⟨by decide +kernel, by decide +kernel⟩, lw_t2 (List.mem_of_getElem? (i := 234) rfl), lw_t3 (List.mem_of_getElem? (i := 200) rfl), lw_t3 (List.mem_of_getElem? (i := 201) rfl)⟩
theorem lw_p26 : lw_okq (⟨"NetSearchModel", "treesBy", "(J)J"⟩, 44) := ⟨⟨by decide +kernel, by decide +kernel⟩, lw_t2 (List.mem_of_getElem? (i := 234) rfl), lw_t3 (List.mem_of_getElem? (i := 211) rfl), lw_t3 (List.mem_of_getElem? (i := 212) rfl)⟩
theorem lw_p27 : lw_okq (⟨"NetSearchModel", "nextRight", "(IIII)I"⟩, 44) := ⟨⟨by decide +kernel, by decide +kernel⟩, lw_t2 (List.mem_of_getElem? (i := 234) rfl), lw_t3 (List.mem_of_getElem? (i := 236) rfl), lw_t3 (List.mem_of_getElem? (i := 237) rfl)⟩
theorem lw_p28 : lw_okq (⟨"NetSearchModel", "lead", "(II)I"⟩, 44) := ⟨⟨by decide +kernel, by decide +kernel⟩, lw_t2 (List.mem_of_getElem? (i := 234) rfl), lw_t4 (List.mem_of_getElem? (i := 0) rfl), lw_t4 (List.mem_of_getElem? (i := 1) rfl)⟩
theorem lw_p29 : lw_okq (⟨"NetSearchModel", "nextUp", "(IIII)I"⟩, 44) := ⟨⟨by decide +kernel, by decide +kernel⟩, lw_t2 (List.mem_of_getElem? (i := 234) rfl), lw_t4 (List.mem_of_getElem? (i := 4) rfl), lw_t4 (List.mem_of_getElem? (i := 5) rfl)⟩
theorem lw_p30 : lw_okq (⟨"NetSearchModel", "net", "()V"⟩, 44) := ⟨⟨by decide +kernel, by decide +kernel⟩, lw_t2 (List.mem_of_getElem? (i := 234) rfl), lw_t4 (List.mem_of_getElem? (i := 16) rfl), lw_t4 (List.mem_of_getElem? (i := 17) rfl)⟩
theorem lw_p31 : lw_okq (⟨"NetSearchModel", "most", "([I)I"⟩, 44) := ⟨⟨by decide +kernel, by decide +kernel⟩, lw_t2 (List.mem_of_getElem? (i := 234) rfl), lw_t4 (List.mem_of_getElem? (i := 20) rfl), lw_t4 (List.mem_of_getElem? (i := 21) rfl)⟩
def lw_privs_2 : List (MethodName × Nat) := [(⟨"NetSearch", "agrees", "(III)Z"⟩, 33), (⟨"NetSearchModel", "anew", "()V"⟩, 44), (⟨"NetSearchModel", "cubeBeside", "(II)I"⟩, 44), (⟨"NetSearchModel", "cubeAt", "(III)I"⟩, 44), (⟨"NetSearchModel", "found", "(II)I"⟩, 44), (⟨"NetSearchModel", "edge", "(II)I"⟩, 44), (⟨"NetSearchModel", "faceOf", "(II)I"⟩, 44), (⟨"NetSearchModel", "led", "(II)I"⟩, 44), (⟨"NetSearchModel", "isFace", "(I)Z"⟩, 44), (⟨"NetSearchModel", "beside", "(II)I"⟩, 44), (⟨"NetSearchModel", "treesBy", "(J)J"⟩, 44), (⟨"NetSearchModel", "nextRight", "(IIII)I"⟩, 44), (⟨"NetSearchModel", "lead", "(II)I"⟩, 44), (⟨"NetSearchModel", "nextUp", "(IIII)I"⟩, 44), (⟨"NetSearchModel", "net", "()V"⟩, 44), (⟨"NetSearchModel", "most", "([I)I"⟩, 44)]
theorem lw_r2 : ∀ q ∈ lw_privs_2, lw_okq q := List.forall_mem_cons.mpr ⟨lw_p16, List.forall_mem_cons.mpr ⟨lw_p17, List.forall_mem_cons.mpr ⟨lw_p18, List.forall_mem_cons.mpr ⟨lw_p19, List.forall_mem_cons.mpr ⟨lw_p20, List.forall_mem_cons.mpr ⟨lw_p21, List.forall_mem_cons.mpr ⟨lw_p22, List.forall_mem_cons.mpr ⟨lw_p23, List.forall_mem_cons.mpr ⟨lw_p24, List.forall_mem_cons.mpr ⟨lw_p25, List.forall_mem_cons.mpr ⟨lw_p26, List.forall_mem_cons.mpr ⟨lw_p27, List.forall_mem_cons.mpr ⟨lw_p28, List.forall_mem_cons.mpr ⟨lw_p29, List.forall_mem_cons.mpr ⟨lw_p30, List.forall_mem_cons.mpr ⟨lw_p31, fun _ h => absurd h List.not_mem_nil⟩⟩⟩⟩⟩⟩⟩⟩⟩⟩⟩⟩⟩⟩⟩⟩
theorem lw_p32 : lw_okq (⟨"NetSearchModel", "least", "([I)I"⟩, 44) := ⟨⟨by decide +kernel, by decide +kernel⟩, lw_t2 (List.mem_of_getElem? (i := 234) rfl), lw_t4 (List.mem_of_getElem? (i := 24) rfl), lw_t4 (List.mem_of_getElem? (i := 25) rfl)⟩
theorem lw_p33 : lw_okq (⟨"NetSearchModel", "keep", "()V"⟩, 44) := ⟨⟨by decide +kernel, by decide +kernel⟩, lw_t2 (List.mem_of_getElem? (i := 234) rfl), lw_t4 (List.mem_of_getElem? (i := 34) rfl), lw_t4 (List.mem_of_getElem? (i := 35) rfl)⟩
theorem lw_p34 : lw_okq (⟨"NetSearchModel", "isEmpty", "(II)Z"⟩, 44) := ⟨⟨by decide +kernel, by decide +kernel⟩, lw_t2 (List.mem_of_getElem? (i := 234) rfl), lw_t4 (List.mem_of_getElem? (i := 38) rfl), lw_t4 (List.mem_of_getElem? (i := 39) rfl)⟩
theorem lw_p35 : lw_okq (⟨"NetSearchModel", "isShape", "(I)Z"⟩, 44) := ⟨⟨by decide +kernel, by decide +kernel⟩, lw_t2 (List.mem_of_getElem? (i := 234) rfl), lw_t4 (List.mem_of_getElem? (i := 54) rfl), lw_t4 (List.mem_of_getElem? (i := 55) rfl)⟩
theorem lw_p36 : lw_okq (⟨"NetSearchModel", "isWrapped", "(III)Z"⟩, 44) := ⟨⟨by decide +kernel, by decide +kernel⟩, lw_t2 (List.mem_of_getElem? (i := 234) rfl), lw_t4 (List.mem_of_getElem? (i := 66) rfl), lw_t4 (List.mem_of_getElem? (i := 67) rfl)⟩
theorem lw_p37 : lw_okq (⟨"NetSearchModel", "placeAt", "(III)I"⟩, 44) := ⟨⟨by decide +kernel, by decide +kernel⟩, lw_t2 (List.mem_of_getElem? (i := 234) rfl), lw_t4 (List.mem_of_getElem? (i := 70) rfl), lw_t4 (List.mem_of_getElem? (i := 71) rfl)⟩
def lw_privs_3 : List (MethodName × Nat) := [(⟨"NetSearchModel", "least", "([I)I"⟩, 44), (⟨"NetSearchModel", "keep", "()V"⟩, 44), (⟨"NetSearchModel", "isEmpty", "(II)Z"⟩, 44), (⟨"NetSearchModel", "isShape", "(I)Z"⟩, 44), (⟨"NetSearchModel", "isWrapped", "(III)Z"⟩, 44), (⟨"NetSearchModel", "placeAt", "(III)I"⟩, 44)]
theorem lw_r3 : ∀ q ∈ lw_privs_3, lw_okq q := List.forall_mem_cons.mpr ⟨lw_p32, List.forall_mem_cons.mpr ⟨lw_p33, List.forall_mem_cons.mpr ⟨lw_p34, List.forall_mem_cons.mpr ⟨lw_p35, List.forall_mem_cons.mpr ⟨lw_p36, List.forall_mem_cons.mpr ⟨lw_p37, fun _ h => absurd h List.not_mem_nil⟩⟩⟩⟩⟩⟩
def lw_privs : List (MethodName × Nat) := lw_privs_1 ++ (lw_privs_2 ++ (lw_privs_3))
def lw_tbl : List Cond := k2_sels lw_privs ++ tables_1
theorem lw_privs_ok : ∀ q ∈ lw_privs, lw_okq q := by
  show ∀ q ∈ lw_privs_1 ++ (lw_privs_2 ++ (lw_privs_3)), lw_okq q
  exact List.forall_mem_append.mpr ⟨lw_r1, List.forall_mem_append.mpr ⟨lw_r2, lw_r3⟩⟩
-- ===== ONE list of words for every method: the tables' words that hold all through a run =====
def lw_all : List Cond := lw_tbl.filter goodWord
/-- a word of the tables by its place: claim/WORDS.tsv -/
theorem lw_w {w : Cond} (i : Nat) (h : lw_tbl[i]? = some w) (g : goodWord w = true) : w ∈ lw_all := List.mem_filter.mpr ⟨List.mem_of_getElem? h, g⟩
theorem lw_all_tbl {w : Cond} (h : w ∈ lw_all) : w ∈ lw_tbl := (List.mem_filter.mp h).1
theorem lw_self : GoodIn lw_all lw_all := fun w h => ⟨h, good_of_word (List.mem_filter.mp h).2⟩
/-- a class's field words, by their places -/
theorem lw_in (ws : List Cond) (ps : List Nat) (hp : ws = ps.filterMap (fun i => lw_tbl[i]?)) (hg : ws.all goodWord = true) : ∀ w ∈ ws, w ∈ lw_all := by
  intro w h
  have h1 := List.all_eq_true.mp hg w h
  rw [hp] at h
  obtain ⟨i, -, hi⟩ := List.mem_filterMap.mp h
  exact lw_w i hi h1
/-- the words of a contract for the method y with code b, L locals, answer r -/
abbrev ws_ (y : MethodName) (b : ByteArray) (L : Nat) (r : Option FieldType) : List Cond := Cond.code y b L r :: lw_all
theorem lw_meth {y : MethodName} {b : ByteArray} {L : Nat} {r : Option FieldType} (h : Cond.code y b L r ∈ lw_all) : GoodIn lw_all (ws_ y b L r) := by
  intro w hw
  rcases List.mem_cons.mp hw with e | e
  · rw [e]
    exact lw_self _ h
  · exact lw_self _ e
theorem lw_app {a c : List Cond} (ha : ∀ w ∈ a, w ∈ lw_all) (hc : GoodIn lw_all c) : GoodIn lw_all (a ++ c) := by
  intro w hw
  rcases List.mem_append.mp hw with e | e
  · exact lw_self w (ha w e)
  · exact hc w e
/-- what a call through an object asks: cwV n hts (lw_V ..) -/
theorem lw_V {own : String} {idx : Nat} {C : String} {y : MethodName} {b : ByteArray} {L : Nat} {r : Option FieldType} (h1 : Cond.methodLink own idx y ∈ lw_all) (h2 : Cond.instanceMethod y ∈ lw_all) (h3 : Cond.selects C y y ∈ lw_all) (h4 : Cond.initialized C ∈ lw_all) (h5 : Cond.code y b L r ∈ lw_all) : GoodIn lw_all (wsV own idx C y (ws_ y b L r)) := by
  refine lw_app ?_ (lw_meth h5)
  intro w hw
  simp only [List.mem_cons, List.not_mem_nil, or_false] at hw
  rcases hw with e | e | e | e
  · rw [e]; exact h1
  · rw [e]; exact h2
  · rw [e]; exact h3
  · rw [e]; exact h4
/-- what a static call asks: va_cwS n hts (lw_S ..) -/
theorem lw_S {own : String} {idx : Nat} {y : MethodName} {b : ByteArray} {L : Nat} {r : Option FieldType} (h1 : Cond.methodLink own idx y ∈ lw_all) (h2 : Cond.static y ∈ lw_all) (h3 : Cond.initialized y.cls ∈ lw_all) (h4 : Cond.code y b L r ∈ lw_all) : GoodIn lw_all (va_wsS own idx y (ws_ y b L r)) := by
  refine lw_app ?_ (lw_meth h4)
  intro w hw
  simp only [List.mem_cons, List.not_mem_nil, or_false] at hw
  rcases hw with e | e | e
  · rw [e]; exact h1
  · rw [e]; exact h2
  · rw [e]; exact h3
/-- the words of a contract for a method WITH HANDLERS (hh: its table) -/
abbrev wsW_ (y : MethodName) (b : ByteArray) (L : Nat) (r : Option FieldType) (hh : List (Nat × Nat × Nat × Nat)) : List Cond := Cond.codeWith y b L r hh :: lw_all
theorem lw_methW {y : MethodName} {b : ByteArray} {L : Nat} {r : Option FieldType} {hh : List (Nat × Nat × Nat × Nat)} (h : Cond.codeWith y b L r hh ∈ lw_all) : GoodIn lw_all (wsW_ y b L r hh) := by
  intro w hw
  rcases List.mem_cons.mp hw with e | e
  · rw [e]
    exact lw_self _ h
  · exact lw_self _ e
/-- any list of words by their places (lw_in), good -/
theorem lw_good {ws : List Cond} (h : ∀ w ∈ ws, w ∈ lw_all) : GoodIn lw_all ws := fun w hw => lw_self w (h w hw)
/-- what a call of a method with handlers asks: vx_cwVW n hts (lw_VW ..), vx_cwSW n hts (lw_SW ..) -/
theorem lw_VW {own : String} {idx : Nat} {C : String} {y : MethodName} {b : ByteArray} {L : Nat} {r : Option FieldType} {hh : List (Nat × Nat × Nat × Nat)} (h1 : Cond.methodLink own idx y ∈ lw_all) (h2 : Cond.instanceMethod y ∈ lw_all) (h3 : Cond.selects C y y ∈ lw_all) (h4 : Cond.initialized C ∈ lw_all) (h5 : Cond.codeWith y b L r hh ∈ lw_all) : GoodIn lw_all (wsV own idx C y (wsW_ y b L r hh)) := by
  refine lw_app ?_ (lw_methW h5)
  intro w hw
  simp only [List.mem_cons, List.not_mem_nil, or_false] at hw
  rcases hw with e | e | e | e
  · rw [e]; exact h1
  · rw [e]; exact h2
  · rw [e]; exact h3
  · rw [e]; exact h4
theorem lw_SW {own : String} {idx : Nat} {y : MethodName} {b : ByteArray} {L : Nat} {r : Option FieldType} {hh : List (Nat × Nat × Nat × Nat)} (h1 : Cond.methodLink own idx y ∈ lw_all) (h2 : Cond.static y ∈ lw_all) (h3 : Cond.initialized y.cls ∈ lw_all) (h4 : Cond.codeWith y b L r hh ∈ lw_all) : GoodIn lw_all (va_wsS own idx y (wsW_ y b L r hh)) := by
  refine lw_app ?_ (lw_methW h4)
  intro w hw
  simp only [List.mem_cons, List.not_mem_nil, or_false] at hw
  rcases hw with e | e | e
  · rw [e]; exact h1
  · rw [e]; exact h2
  · rw [e]; exact h3
/-- a word by its place in its run of the tables -/
theorem lw_at {r : List Cond} (hr : ∀ w ∈ r, w ∈ lw_tbl) {w : Cond} (i : Nat) (h : r[i]? = some w) : w ∈ lw_tbl := hr w (List.mem_of_getElem? h)
theorem lw_g {w : Cond} (h : w ∈ lw_tbl) (g : goodWord w = true) : w ∈ lw_all := List.mem_filter.mpr ⟨h, g⟩
theorem lw_ms : ∀ w ∈ k2_sels lw_privs, w ∈ lw_tbl := fun w h => show w ∈ k2_sels lw_privs ++ tables_1 from List.mem_append_left _ h
theorem lw_m1 : ∀ w ∈ tables_1_1, w ∈ lw_tbl := fun w h => show w ∈ k2_sels lw_privs ++ tables_1 from List.mem_append_right (k2_sels lw_privs) (show w ∈ tables_1 from List.mem_append_left _ h)
theorem lw_m2 : ∀ w ∈ tables_1_2, w ∈ lw_tbl := fun w h => show w ∈ k2_sels lw_privs ++ tables_1 from List.mem_append_right (k2_sels lw_privs) (show w ∈ tables_1 from List.mem_append_right _ (List.mem_append_left _ h))
theorem lw_m3 : ∀ w ∈ tables_1_3, w ∈ lw_tbl := fun w h => show w ∈ k2_sels lw_privs ++ tables_1 from List.mem_append_right (k2_sels lw_privs) (show w ∈ tables_1 from List.mem_append_right _ (List.mem_append_right _ (List.mem_append_left _ h)))
theorem lw_m4 : ∀ w ∈ tables_1_4, w ∈ lw_tbl := fun w h => show w ∈ k2_sels lw_privs ++ tables_1 from List.mem_append_right (k2_sels lw_privs) (show w ∈ tables_1 from List.mem_append_right _ (List.mem_append_right _ (List.mem_append_right _ h)))
theorem qs0 : (Cond.selects "NetSearch" ⟨"NetSearch", "renew", "()V"⟩ ⟨"NetSearch", "renew", "()V"⟩) ∈ lw_all := lw_g (lw_at lw_ms 0 rfl) rfl
theorem qs1 : (Cond.selects "NetSearch" ⟨"NetSearch", "cubeBy", "(III)I"⟩ ⟨"NetSearch", "cubeBy", "(III)I"⟩) ∈ lw_all := lw_g (lw_at lw_ms 1 rfl) rfl
theorem qs2 : (Cond.selects "NetSearch" ⟨"NetSearch", "cubeAt", "(III)I"⟩ ⟨"NetSearch", "cubeAt", "(III)I"⟩) ∈ lw_all := lw_g (lw_at lw_ms 2 rfl) rfl
theorem qs3 : (Cond.selects "NetSearch" ⟨"NetSearch", "findAcross", "(LNetSearch$Face;I)V"⟩ ⟨"NetSearch", "findAcross", "(LNetSearch$Face;I)V"⟩) ∈ lw_all := lw_g (lw_at lw_ms 3 rfl) rfl
theorem qs4 : (Cond.selects "NetSearch" ⟨"NetSearch", "faceAt", "(II)I"⟩ ⟨"NetSearch", "faceAt", "(II)I"⟩) ∈ lw_all := lw_g (lw_at lw_ms 4 rfl) rfl
theorem qs5 : (Cond.selects "NetSearch$Sheet" ⟨"NetSearch$Sheet", "placeOf", "(II)I"⟩ ⟨"NetSearch$Sheet", "placeOf", "(II)I"⟩) ∈ lw_all := lw_g (lw_at lw_ms 5 rfl) rfl
theorem qs6 : (Cond.selects "NetSearch" ⟨"NetSearch", "isFace", "(I)Z"⟩ ⟨"NetSearch", "isFace", "(I)Z"⟩) ∈ lw_all := lw_g (lw_at lw_ms 6 rfl) rfl
theorem qs7 : (Cond.selects "NetSearch" ⟨"NetSearch", "treesBy", "(J)J"⟩ ⟨"NetSearch", "treesBy", "(J)J"⟩) ∈ lw_all := lw_g (lw_at lw_ms 7 rfl) rfl
theorem qs8 : (Cond.selects "NetSearch" ⟨"NetSearch", "found", "()V"⟩ ⟨"NetSearch", "found", "()V"⟩) ∈ lw_all := lw_g (lw_at lw_ms 8 rfl) rfl
theorem qs9 : (Cond.selects "NetSearch" ⟨"NetSearch", "keep", "()V"⟩ ⟨"NetSearch", "keep", "()V"⟩) ∈ lw_all := lw_g (lw_at lw_ms 9 rfl) rfl
theorem qs10 : (Cond.selects "NetSearch" ⟨"NetSearch", "imageBy", "(I)V"⟩ ⟨"NetSearch", "imageBy", "(I)V"⟩) ∈ lw_all := lw_g (lw_at lw_ms 10 rfl) rfl
theorem qs11 : (Cond.selects "NetSearch" ⟨"NetSearch", "back", "()V"⟩ ⟨"NetSearch", "back", "()V"⟩) ∈ lw_all := lw_g (lw_at lw_ms 11 rfl) rfl
theorem qs12 : (Cond.selects "NetSearch" ⟨"NetSearch", "findBeside", "(II)V"⟩ ⟨"NetSearch", "findBeside", "(II)V"⟩) ∈ lw_all := lw_g (lw_at lw_ms 12 rfl) rfl
theorem qs13 : (Cond.selects "NetSearch" ⟨"NetSearch", "imageX", "(III)I"⟩ ⟨"NetSearch", "imageX", "(III)I"⟩) ∈ lw_all := lw_g (lw_at lw_ms 13 rfl) rfl
theorem qs14 : (Cond.selects "NetSearch" ⟨"NetSearch", "imageY", "(III)I"⟩ ⟨"NetSearch", "imageY", "(III)I"⟩) ∈ lw_all := lw_g (lw_at lw_ms 14 rfl) rfl
theorem qs15 : (Cond.selects "NetSearch" ⟨"NetSearch", "isWrapped", "(II)Z"⟩ ⟨"NetSearch", "isWrapped", "(II)Z"⟩) ∈ lw_all := lw_g (lw_at lw_ms 15 rfl) rfl
theorem qs16 : (Cond.selects "NetSearch" ⟨"NetSearch", "agrees", "(III)Z"⟩ ⟨"NetSearch", "agrees", "(III)Z"⟩) ∈ lw_all := lw_g (lw_at lw_ms 16 rfl) rfl
theorem qs17 : (Cond.selects "NetSearchModel" ⟨"NetSearchModel", "anew", "()V"⟩ ⟨"NetSearchModel", "anew", "()V"⟩) ∈ lw_all := lw_g (lw_at lw_ms 17 rfl) rfl
theorem qs18 : (Cond.selects "NetSearchModel" ⟨"NetSearchModel", "cubeBeside", "(II)I"⟩ ⟨"NetSearchModel", "cubeBeside", "(II)I"⟩) ∈ lw_all := lw_g (lw_at lw_ms 18 rfl) rfl
theorem qs19 : (Cond.selects "NetSearchModel" ⟨"NetSearchModel", "cubeAt", "(III)I"⟩ ⟨"NetSearchModel", "cubeAt", "(III)I"⟩) ∈ lw_all := lw_g (lw_at lw_ms 19 rfl) rfl
theorem qs20 : (Cond.selects "NetSearchModel" ⟨"NetSearchModel", "found", "(II)I"⟩ ⟨"NetSearchModel", "found", "(II)I"⟩) ∈ lw_all := lw_g (lw_at lw_ms 20 rfl) rfl
theorem qs21 : (Cond.selects "NetSearchModel" ⟨"NetSearchModel", "edge", "(II)I"⟩ ⟨"NetSearchModel", "edge", "(II)I"⟩) ∈ lw_all := lw_g (lw_at lw_ms 21 rfl) rfl
theorem qs22 : (Cond.selects "NetSearchModel" ⟨"NetSearchModel", "faceOf", "(II)I"⟩ ⟨"NetSearchModel", "faceOf", "(II)I"⟩) ∈ lw_all := lw_g (lw_at lw_ms 22 rfl) rfl
theorem qs23 : (Cond.selects "NetSearchModel" ⟨"NetSearchModel", "led", "(II)I"⟩ ⟨"NetSearchModel", "led", "(II)I"⟩) ∈ lw_all := lw_g (lw_at lw_ms 23 rfl) rfl
theorem qs24 : (Cond.selects "NetSearchModel" ⟨"NetSearchModel", "isFace", "(I)Z"⟩ ⟨"NetSearchModel", "isFace", "(I)Z"⟩) ∈ lw_all := lw_g (lw_at lw_ms 24 rfl) rfl
theorem qs25 : (Cond.selects "NetSearchModel" ⟨"NetSearchModel", "beside", "(II)I"⟩ ⟨"NetSearchModel", "beside", "(II)I"⟩) ∈ lw_all := lw_g (lw_at lw_ms 25 rfl) rfl
theorem qs26 : (Cond.selects "NetSearchModel" ⟨"NetSearchModel", "treesBy", "(J)J"⟩ ⟨"NetSearchModel", "treesBy", "(J)J"⟩) ∈ lw_all := lw_g (lw_at lw_ms 26 rfl) rfl
theorem qs27 : (Cond.selects "NetSearchModel" ⟨"NetSearchModel", "nextRight", "(IIII)I"⟩ ⟨"NetSearchModel", "nextRight", "(IIII)I"⟩) ∈ lw_all := lw_g (lw_at lw_ms 27 rfl) rfl
theorem qs28 : (Cond.selects "NetSearchModel" ⟨"NetSearchModel", "lead", "(II)I"⟩ ⟨"NetSearchModel", "lead", "(II)I"⟩) ∈ lw_all := lw_g (lw_at lw_ms 28 rfl) rfl
theorem qs29 : (Cond.selects "NetSearchModel" ⟨"NetSearchModel", "nextUp", "(IIII)I"⟩ ⟨"NetSearchModel", "nextUp", "(IIII)I"⟩) ∈ lw_all := lw_g (lw_at lw_ms 29 rfl) rfl
theorem qs30 : (Cond.selects "NetSearchModel" ⟨"NetSearchModel", "net", "()V"⟩ ⟨"NetSearchModel", "net", "()V"⟩) ∈ lw_all := lw_g (lw_at lw_ms 30 rfl) rfl
theorem qs31 : (Cond.selects "NetSearchModel" ⟨"NetSearchModel", "most", "([I)I"⟩ ⟨"NetSearchModel", "most", "([I)I"⟩) ∈ lw_all := lw_g (lw_at lw_ms 31 rfl) rfl
theorem qs32 : (Cond.selects "NetSearchModel" ⟨"NetSearchModel", "least", "([I)I"⟩ ⟨"NetSearchModel", "least", "([I)I"⟩) ∈ lw_all := lw_g (lw_at lw_ms 32 rfl) rfl
theorem qs33 : (Cond.selects "NetSearchModel" ⟨"NetSearchModel", "keep", "()V"⟩ ⟨"NetSearchModel", "keep", "()V"⟩) ∈ lw_all := lw_g (lw_at lw_ms 33 rfl) rfl
theorem qs34 : (Cond.selects "NetSearchModel" ⟨"NetSearchModel", "isEmpty", "(II)Z"⟩ ⟨"NetSearchModel", "isEmpty", "(II)Z"⟩) ∈ lw_all := lw_g (lw_at lw_ms 34 rfl) rfl
theorem qs35 : (Cond.selects "NetSearchModel" ⟨"NetSearchModel", "isShape", "(I)Z"⟩ ⟨"NetSearchModel", "isShape", "(I)Z"⟩) ∈ lw_all := lw_g (lw_at lw_ms 35 rfl) rfl
theorem qs36 : (Cond.selects "NetSearchModel" ⟨"NetSearchModel", "isWrapped", "(III)Z"⟩ ⟨"NetSearchModel", "isWrapped", "(III)Z"⟩) ∈ lw_all := lw_g (lw_at lw_ms 36 rfl) rfl
theorem qs37 : (Cond.selects "NetSearchModel" ⟨"NetSearchModel", "placeAt", "(III)I"⟩ ⟨"NetSearchModel", "placeAt", "(III)I"⟩) ∈ lw_all := lw_g (lw_at lw_ms 37 rfl) rfl
end
section
set_option maxRecDepth 100000
/-! NetSearch -/
def RX0 : String := "NetSearch"
def TX0 : u_T := fun k => match k with
  | 0 => ("NetSearch", "ways", "[LNetSearch$Way;", true)
  | 1 => ("NetSearch", "firstRight", "[I", true)
  | 2 => ("NetSearch", "firstUp", "[I", true)
  | 3 => ("NetSearch", "cubes", "I", false)
  | 4 => ("NetSearch", "cubeX", "[I", true)
  | 5 => ("NetSearch", "cubeY", "[I", true)
  | 6 => ("NetSearch", "cubeZ", "[I", true)
  | 7 => ("NetSearch", "faces", "I", false)
  | 8 => ("NetSearch", "face", "[LNetSearch$Face;", true)
  | 9 => ("NetSearch", "rows", "[[J", true)
  | 10 => ("NetSearch", "hand", "LNetSearch$Sheet;", true)
  | 11 => ("NetSearch", "sheet", "LNetSearch$Sheet;", true)
  | 12 => ("NetSearch", "choices", "I", false)
  | 13 => ("NetSearch", "choice", "[I", true)
  | 14 => ("NetSearch", "at", "I", false)
  | 15 => ("NetSearch", "nets", "I", false)
  | 16 => ("NetSearch", "work", "I", false)
  | 17 => ("NetSearch", "hasEnded", "Z", false)
  | 18 => ("NetSearch", "bestNet", "I", false)
  | 19 => ("NetSearch", "bestWidth", "I", false)
  | 20 => ("NetSearch", "bestHeight", "I", false)
  | 21 => ("NetSearch", "bestX", "[I", true)
  | 22 => ("NetSearch", "bestY", "[I", true)
  | 23 => ("NetSearch", "kept", "I", false)
  | 24 => ("NetSearch", "shapes", "[[I", true)
  | 25 => ("NetSearch", "sizes", "[I", true)
  | 26 => ("NetSearch", "image", "[I", true)
  | 27 => ("NetSearch", "least", "[I", true)
  | 28 => ("NetSearch", "lain", "[I", true)
  | 29 => ("NetSearch", "lainRight", "[I", true)
  | 30 => ("NetSearch", "lainUp", "[I", true)
  | 31 => ("NetSearch", "beside", "[I", true)
  | _ => ("NetSearch", "queue", "[I", true)
def tyX0 : Nat → FieldType := fun k => match k with
  | 0 => .array (.object "NetSearch$Way")
  | 1 => .array .int
  | 2 => .array .int
  | 3 => .int
  | 4 => .array .int
  | 5 => .array .int
  | 6 => .array .int
  | 7 => .int
  | 8 => .array (.object "NetSearch$Face")
  | 9 => .array (.array .long)
  | 10 => .object "NetSearch$Sheet"
  | 11 => .object "NetSearch$Sheet"
  | 12 => .int
  | 13 => .array .int
  | 14 => .int
  | 15 => .int
  | 16 => .int
  | 17 => .boolean
  | 18 => .int
  | 19 => .int
  | 20 => .int
  | 21 => .array .int
  | 22 => .array .int
  | 23 => .int
  | 24 => .array (.array .int)
  | 25 => .array .int
  | 26 => .array .int
  | 27 => .array .int
  | 28 => .array .int
  | 29 => .array .int
  | 30 => .array .int
  | 31 => .array .int
  | _ => .array .int
abbrev wsX00 : List Cond := u_ws RX0 TX0 33
set_option maxRecDepth 100000 in
theorem nmX0 : ∀ a, a < 33 → ∀ b, b < 33 → a ≠ b → (TX0 a).2.1 ≠ (TX0 b).2.1 := by decide +kernel
set_option maxRecDepth 100000 in
theorem tyX0_ok : ∀ k, k < 33 → parseFieldDescriptor (TX0 k).2.2.1 = some (tyX0 k) := by decide +kernel
abbrev cX0_init : ByteArray := prog_1_method_2_code
def yX0_init : MethodName := ⟨RX0, "<init>", "()V"⟩
abbrev cX0_renew : ByteArray := prog_1_method_6_code
def yX0_renew : MethodName := ⟨RX0, "renew", "()V"⟩
abbrev cX0_cubeBy : ByteArray := prog_1_method_4_code
def yX0_cubeBy : MethodName := ⟨RX0, "cubeBy", "(III)I"⟩
abbrev cX0_cubeAt : ByteArray := prog_1_method_3_code
def yX0_cubeAt : MethodName := ⟨RX0, "cubeAt", "(III)I"⟩
abbrev cX0_findAcross : ByteArray := prog_1_method_7_code
def yX0_findAcross : MethodName := ⟨RX0, "findAcross", "(LNetSearch$Face;I)V"⟩
abbrev cX0_faceAt : ByteArray := prog_1_method_5_code
def yX0_faceAt : MethodName := ⟨RX0, "faceAt", "(II)I"⟩
abbrev cX0_cube : ByteArray := prog_1_method_8_code
def yX0_cube : MethodName := ⟨RX0, "cube", "(III)I"⟩
abbrev cX0_in : ByteArray := prog_1_method_1_code
def yX0_in : MethodName := ⟨RX0, "in", "(III)Z"⟩
abbrev cX0_clear : ByteArray := prog_1_method_9_code
def yX0_clear : MethodName := ⟨RX0, "clear", "()I"⟩
abbrev cX0_face : ByteArray := prog_1_method_11_code
def yX0_face : MethodName := ⟨RX0, "face", "(II)I"⟩
abbrev cX0_isFace : ByteArray := prog_1_method_10_code
def yX0_isFace : MethodName := ⟨RX0, "isFace", "(I)Z"⟩
abbrev cX0_across : ByteArray := prog_1_method_12_code
def yX0_across : MethodName := ⟨RX0, "across", "(II)I"⟩
abbrev cX0_trees : ByteArray := prog_1_method_15_code
def yX0_trees : MethodName := ⟨RX0, "trees", "()J"⟩
abbrev cX0_treesBy : ByteArray := prog_1_method_13_code
def yX0_treesBy : MethodName := ⟨RX0, "treesBy", "(J)J"⟩
abbrev cX0_power : ByteArray := prog_1_method_14_code
def yX0_power : MethodName := ⟨RX0, "power", "(JJJ)J"⟩
abbrev cX0_lay : ByteArray := prog_1_method_16_code
def yX0_lay : MethodName := ⟨RX0, "lay", "(I)I"⟩
abbrev cX0_grow : ByteArray := prog_1_method_17_code
def yX0_grow : MethodName := ⟨RX0, "grow", "(II)I"⟩
abbrev cX0_paper : ByteArray := prog_1_method_18_code
def yX0_paper : MethodName := ⟨RX0, "paper", "(II)I"⟩
abbrev cX0_run : ByteArray := prog_1_method_19_code
def yX0_run : MethodName := ⟨RX0, "run", "(I)I"⟩
abbrev cX0_found : ByteArray := prog_1_method_21_code
def yX0_found : MethodName := ⟨RX0, "found", "()V"⟩
abbrev cX0_keep : ByteArray := prog_1_method_26_code
def yX0_keep : MethodName := ⟨RX0, "keep", "()V"⟩
abbrev cX0_imageBy : ByteArray := prog_1_method_24_code
def yX0_imageBy : MethodName := ⟨RX0, "imageBy", "(I)V"⟩
abbrev cX0_turnedX : ByteArray := prog_1_method_22_code
def yX0_turnedX : MethodName := ⟨RX0, "turnedX", "(III)I"⟩
abbrev cX0_turnedY : ByteArray := prog_1_method_23_code
def yX0_turnedY : MethodName := ⟨RX0, "turnedY", "(III)I"⟩
abbrev cX0_isLess : ByteArray := prog_1_method_25_code
def yX0_isLess : MethodName := ⟨RX0, "isLess", "([I[II)Z"⟩
abbrev cX0_back : ByteArray := prog_1_method_20_code
def yX0_back : MethodName := ⟨RX0, "back", "()V"⟩
abbrev cX0_forget : ByteArray := prog_1_method_27_code
def yX0_forget : MethodName := ⟨RX0, "forget", "()I"⟩
abbrev cX0_told : ByteArray := prog_1_method_28_code
def yX0_told : MethodName := ⟨RX0, "told", "(I)I"⟩
abbrev cX0_best : ByteArray := prog_1_method_29_code
def yX0_best : MethodName := ⟨RX0, "best", "(II)I"⟩
abbrev cX0_size : ByteArray := prog_1_method_30_code
def yX0_size : MethodName := ⟨RX0, "size", "(I)I"⟩
abbrev cX0_shape : ByteArray := prog_1_method_31_code
def yX0_shape : MethodName := ⟨RX0, "shape", "(III)I"⟩
abbrev cX0_wraps : ByteArray := prog_1_method_37_code
def yX0_wraps : MethodName := ⟨RX0, "wraps", "(I)I"⟩
abbrev cX0_findBeside : ByteArray := prog_1_method_35_code
def yX0_findBeside : MethodName := ⟨RX0, "findBeside", "(II)V"⟩
abbrev cX0_imageX : ByteArray := prog_1_method_32_code
def yX0_imageX : MethodName := ⟨RX0, "imageX", "(III)I"⟩
abbrev cX0_imageY : ByteArray := prog_1_method_33_code
def yX0_imageY : MethodName := ⟨RX0, "imageY", "(III)I"⟩
abbrev cX0_isWrapped : ByteArray := prog_1_method_36_code
def yX0_isWrapped : MethodName := ⟨RX0, "isWrapped", "(II)Z"⟩
abbrev cX0_agrees : ByteArray := prog_1_method_34_code
def yX0_agrees : MethodName := ⟨RX0, "agrees", "(III)Z"⟩
theorem q39 : (Jvm.Cond.initialized "NetSearch") ∈ lw_all := lw_g (lw_at lw_m1 1 rfl) rfl
theorem q51 : (Jvm.Cond.instantiable "NetSearch" (33 : Nat)) ∈ lw_all := lw_g (lw_at lw_m1 13 rfl) rfl
theorem q53 : (Jvm.Cond.instanceMethod ({ cls := "NetSearch", name := "<init>", desc := "()V" } : Jvm.MethodName)) ∈ lw_all := lw_g (lw_at lw_m1 15 rfl) rfl
theorem q54 : (Jvm.Cond.code ({ cls := "NetSearch", name := "<init>", desc := "()V" } : Jvm.MethodName) prog_1_method_2_code (2 : Nat) (Option.none : Option Jvm.ClassFile.FieldType)) ∈ lw_all := lw_g (lw_at lw_m1 16 rfl) rfl
theorem q55 : (Jvm.Cond.methodLink "NetSearch" (1 : Nat) ({ cls := "java/lang/Object", name := "<init>", desc := "()V" } : Jvm.MethodName)) ∈ lw_all := lw_g (lw_at lw_m1 17 rfl) rfl
theorem q58 : (Jvm.Cond.methodLink "NetSearch" (7 : Nat) ({ cls := "NetSearch$Way", name := "values", desc := "()[LNetSearch$Way;" } : Jvm.MethodName)) ∈ lw_all := lw_g (lw_at lw_m1 20 rfl) rfl
theorem q71 : (Jvm.Cond.classLink "NetSearch" (35 : Nat) "NetSearch$Face") ∈ lw_all := lw_g (lw_at lw_m1 33 rfl) rfl
theorem q73 : (Jvm.Cond.classLink "NetSearch" (41 : Nat) "[[J") ∈ lw_all := lw_g (lw_at lw_m1 35 rfl) rfl
theorem q75 : (Jvm.Cond.classLink "NetSearch" (46 : Nat) "NetSearch$Sheet") ∈ lw_all := lw_g (lw_at lw_m1 37 rfl) rfl
theorem q77 : (Jvm.Cond.methodLink "NetSearch" (48 : Nat) ({ cls := "NetSearch$Sheet", name := "<init>", desc := "([LNetSearch$Face;[I[I)V" } : Jvm.MethodName)) ∈ lw_all := lw_g (lw_at lw_m1 39 rfl) rfl
theorem q85 : (Jvm.Cond.fieldLinkNest "NetSearch" (229 : Nat) "NetSearch$Sheet" "many" "I" "NetSearch") ∈ lw_tbl := lw_at lw_m1 47 rfl
theorem q87 : (Jvm.Cond.fieldLinkNest "NetSearch" (238 : Nat) "NetSearch$Sheet" "order" "[I" "NetSearch") ∈ lw_tbl := lw_at lw_m1 49 rfl
theorem q89 : (Jvm.Cond.fieldLinkNest "NetSearch" (201 : Nat) "NetSearch$Sheet" "lies" "[Z" "NetSearch") ∈ lw_tbl := lw_at lw_m1 51 rfl
theorem q91 : (Jvm.Cond.fieldLinkNest "NetSearch" (219 : Nat) "NetSearch$Sheet" "x" "[I" "NetSearch") ∈ lw_tbl := lw_at lw_m1 53 rfl
theorem q93 : (Jvm.Cond.fieldLinkNest "NetSearch" (221 : Nat) "NetSearch$Sheet" "y" "[I" "NetSearch") ∈ lw_tbl := lw_at lw_m1 55 rfl
theorem q95 : (Jvm.Cond.fieldLinkNest "NetSearch" (223 : Nat) "NetSearch$Sheet" "right" "[I" "NetSearch") ∈ lw_tbl := lw_at lw_m1 57 rfl
theorem q97 : (Jvm.Cond.fieldLinkNest "NetSearch" (226 : Nat) "NetSearch$Sheet" "up" "[I" "NetSearch") ∈ lw_tbl := lw_at lw_m1 59 rfl
theorem q125 : (Jvm.Cond.classLink "NetSearch" (67 : Nat) "[I") ∈ lw_all := lw_g (lw_at lw_m1 87 rfl) rfl
theorem q128 : (Jvm.Cond.methodLinkNest "NetSearch" (96 : Nat) ({ cls := "NetSearch$Face", name := "<init>", desc := "()V" } : Jvm.MethodName) "NetSearch") ∈ lw_tbl := lw_at lw_m1 90 rfl
theorem q132 : (Jvm.Cond.fieldLinkNest "NetSearch" (117 : Nat) "NetSearch$Face" "cube" "I" "NetSearch") ∈ lw_tbl := lw_at lw_m1 94 rfl
theorem q133 : (Jvm.Cond.fieldLinkNest "NetSearch" (120 : Nat) "NetSearch$Face" "way" "I" "NetSearch") ∈ lw_tbl := lw_at lw_m1 95 rfl
theorem q136 : (Jvm.Cond.fieldLinkNest "NetSearch" (129 : Nat) "NetSearch$Face" "across" "[I" "NetSearch") ∈ lw_tbl := lw_at lw_m1 98 rfl
theorem q139 : (Jvm.Cond.fieldLinkNest "NetSearch" (166 : Nat) "NetSearch$Face" "turned" "[I" "NetSearch") ∈ lw_tbl := lw_at lw_m1 101 rfl
theorem q150 : (Jvm.Cond.methodLink "NetSearch" (97 : Nat) ({ cls := "NetSearch", name := "renew", desc := "()V" } : Jvm.MethodName)) ∈ lw_all := lw_g (lw_at lw_m1 112 rfl) rfl
theorem q151 : (Jvm.Cond.privateMethod ({ cls := "NetSearch", name := "renew", desc := "()V" } : Jvm.MethodName)) ∈ lw_tbl := lw_at lw_m1 113 rfl
theorem q152 : (Jvm.Cond.instanceMethod ({ cls := "NetSearch", name := "renew", desc := "()V" } : Jvm.MethodName)) ∈ lw_all := lw_g (lw_at lw_m1 114 rfl) rfl
theorem q153 : (Jvm.Cond.code ({ cls := "NetSearch", name := "renew", desc := "()V" } : Jvm.MethodName) prog_1_method_6_code (4 : Nat) (Option.none : Option Jvm.ClassFile.FieldType)) ∈ lw_all := lw_g (lw_at lw_m1 115 rfl) rfl
theorem q154 : (Jvm.Cond.methodLink "NetSearch" (126 : Nat) ({ cls := "NetSearch", name := "cubeBy", desc := "(III)I" } : Jvm.MethodName)) ∈ lw_all := lw_g (lw_at lw_m1 116 rfl) rfl
theorem q155 : (Jvm.Cond.privateMethod ({ cls := "NetSearch", name := "cubeBy", desc := "(III)I" } : Jvm.MethodName)) ∈ lw_tbl := lw_at lw_m1 117 rfl
theorem q156 : (Jvm.Cond.instanceMethod ({ cls := "NetSearch", name := "cubeBy", desc := "(III)I" } : Jvm.MethodName)) ∈ lw_all := lw_g (lw_at lw_m1 118 rfl) rfl
theorem q157 : (Jvm.Cond.code ({ cls := "NetSearch", name := "cubeBy", desc := "(III)I" } : Jvm.MethodName) prog_1_method_4_code (7 : Nat) (Option.some Jvm.ClassFile.FieldType.int)) ∈ lw_all := lw_g (lw_at lw_m1 119 rfl) rfl
theorem q158 : (Jvm.Cond.methodLink "NetSearch" (113 : Nat) ({ cls := "NetSearch", name := "cubeAt", desc := "(III)I" } : Jvm.MethodName)) ∈ lw_all := lw_g (lw_at lw_m1 120 rfl) rfl
theorem q159 : (Jvm.Cond.privateMethod ({ cls := "NetSearch", name := "cubeAt", desc := "(III)I" } : Jvm.MethodName)) ∈ lw_tbl := lw_at lw_m1 121 rfl
theorem q160 : (Jvm.Cond.instanceMethod ({ cls := "NetSearch", name := "cubeAt", desc := "(III)I" } : Jvm.MethodName)) ∈ lw_all := lw_g (lw_at lw_m1 122 rfl) rfl
theorem q161 : (Jvm.Cond.code ({ cls := "NetSearch", name := "cubeAt", desc := "(III)I" } : Jvm.MethodName) prog_1_method_3_code (5 : Nat) (Option.some Jvm.ClassFile.FieldType.int)) ∈ lw_all := lw_g (lw_at lw_m1 123 rfl) rfl
theorem q162 : (Jvm.Cond.methodLink "NetSearch" (132 : Nat) ({ cls := "NetSearch", name := "findAcross", desc := "(LNetSearch$Face;I)V" } : Jvm.MethodName)) ∈ lw_all := lw_g (lw_at lw_m1 124 rfl) rfl
theorem q163 : (Jvm.Cond.privateMethod ({ cls := "NetSearch", name := "findAcross", desc := "(LNetSearch$Face;I)V" } : Jvm.MethodName)) ∈ lw_tbl := lw_at lw_m1 125 rfl
theorem q164 : (Jvm.Cond.instanceMethod ({ cls := "NetSearch", name := "findAcross", desc := "(LNetSearch$Face;I)V" } : Jvm.MethodName)) ∈ lw_all := lw_g (lw_at lw_m1 126 rfl) rfl
theorem q165 : (Jvm.Cond.code ({ cls := "NetSearch", name := "findAcross", desc := "(LNetSearch$Face;I)V" } : Jvm.MethodName) prog_1_method_7_code (5 : Nat) (Option.none : Option Jvm.ClassFile.FieldType)) ∈ lw_all := lw_g (lw_at lw_m1 127 rfl) rfl
theorem q166 : (Jvm.Cond.methodLink "NetSearch" (162 : Nat) ({ cls := "NetSearch", name := "faceAt", desc := "(II)I" } : Jvm.MethodName)) ∈ lw_all := lw_g (lw_at lw_m1 128 rfl) rfl
theorem q167 : (Jvm.Cond.privateMethod ({ cls := "NetSearch", name := "faceAt", desc := "(II)I" } : Jvm.MethodName)) ∈ lw_tbl := lw_at lw_m1 129 rfl
theorem q168 : (Jvm.Cond.instanceMethod ({ cls := "NetSearch", name := "faceAt", desc := "(II)I" } : Jvm.MethodName)) ∈ lw_all := lw_g (lw_at lw_m1 130 rfl) rfl
theorem q169 : (Jvm.Cond.code ({ cls := "NetSearch", name := "faceAt", desc := "(II)I" } : Jvm.MethodName) prog_1_method_5_code (4 : Nat) (Option.some Jvm.ClassFile.FieldType.int)) ∈ lw_all := lw_g (lw_at lw_m1 131 rfl) rfl
theorem q170 : (Jvm.Cond.methodLink "NetSearch" (136 : Nat) ({ cls := "NetSearch$Sheet", name := "clear", desc := "()V" } : Jvm.MethodName)) ∈ lw_all := lw_g (lw_at lw_m1 132 rfl) rfl
theorem q182 : (Jvm.Cond.methodLink "NetSearch" (158 : Nat) ({ cls := "NetSearch$Sheet", name := "first", desc := "(I)V" } : Jvm.MethodName)) ∈ lw_all := lw_g (lw_at lw_m1 144 rfl) rfl
theorem q190 : (Jvm.Cond.fieldLink "NetSearch" (13 : Nat) "NetSearch" "ways" "[LNetSearch$Way;") ∈ lw_all := lw_g (lw_at lw_m1 152 rfl) rfl
theorem q191 : (Jvm.Cond.fieldLink "NetSearch" (19 : Nat) "NetSearch" "firstRight" "[I") ∈ lw_all := lw_g (lw_at lw_m1 153 rfl) rfl
theorem q192 : (Jvm.Cond.fieldLink "NetSearch" (23 : Nat) "NetSearch" "firstUp" "[I") ∈ lw_all := lw_g (lw_at lw_m1 154 rfl) rfl
theorem q193 : (Jvm.Cond.fieldLink "NetSearch" (100 : Nat) "NetSearch" "cubes" "I") ∈ lw_all := lw_g (lw_at lw_m1 155 rfl) rfl
theorem q194 : (Jvm.Cond.fieldLink "NetSearch" (26 : Nat) "NetSearch" "cubeX" "[I") ∈ lw_all := lw_g (lw_at lw_m1 156 rfl) rfl
theorem q195 : (Jvm.Cond.fieldLink "NetSearch" (29 : Nat) "NetSearch" "cubeY" "[I") ∈ lw_all := lw_g (lw_at lw_m1 157 rfl) rfl
theorem q196 : (Jvm.Cond.fieldLink "NetSearch" (32 : Nat) "NetSearch" "cubeZ" "[I") ∈ lw_all := lw_g (lw_at lw_m1 158 rfl) rfl
theorem q197 : (Jvm.Cond.fieldLink "NetSearch" (123 : Nat) "NetSearch" "faces" "I") ∈ lw_all := lw_g (lw_at lw_m1 159 rfl) rfl
theorem q198 : (Jvm.Cond.fieldLink "NetSearch" (37 : Nat) "NetSearch" "face" "[LNetSearch$Face;") ∈ lw_all := lw_g (lw_at lw_m1 160 rfl) rfl
theorem q199 : (Jvm.Cond.fieldLink "NetSearch" (43 : Nat) "NetSearch" "rows" "[[J") ∈ lw_all := lw_g (lw_at lw_m1 161 rfl) rfl
theorem q200 : (Jvm.Cond.fieldLink "NetSearch" (51 : Nat) "NetSearch" "hand" "LNetSearch$Sheet;") ∈ lw_all := lw_g (lw_at lw_m1 162 rfl) rfl
theorem q201 : (Jvm.Cond.fieldLink "NetSearch" (55 : Nat) "NetSearch" "sheet" "LNetSearch$Sheet;") ∈ lw_all := lw_g (lw_at lw_m1 163 rfl) rfl
theorem q202 : (Jvm.Cond.fieldLink "NetSearch" (139 : Nat) "NetSearch" "choices" "I") ∈ lw_all := lw_g (lw_at lw_m1 164 rfl) rfl
theorem q203 : (Jvm.Cond.fieldLink "NetSearch" (58 : Nat) "NetSearch" "choice" "[I") ∈ lw_all := lw_g (lw_at lw_m1 165 rfl) rfl
theorem q204 : (Jvm.Cond.fieldLink "NetSearch" (142 : Nat) "NetSearch" "at" "I") ∈ lw_all := lw_g (lw_at lw_m1 166 rfl) rfl
theorem q205 : (Jvm.Cond.fieldLink "NetSearch" (145 : Nat) "NetSearch" "nets" "I") ∈ lw_all := lw_g (lw_at lw_m1 167 rfl) rfl
theorem q206 : (Jvm.Cond.fieldLink "NetSearch" (148 : Nat) "NetSearch" "work" "I") ∈ lw_all := lw_g (lw_at lw_m1 168 rfl) rfl
theorem q207 : (Jvm.Cond.fieldLink "NetSearch" (151 : Nat) "NetSearch" "hasEnded" "Z") ∈ lw_all := lw_g (lw_at lw_m1 169 rfl) rfl
theorem q208 : (Jvm.Cond.fieldLink "NetSearch" (155 : Nat) "NetSearch" "bestNet" "I") ∈ lw_all := lw_g (lw_at lw_m1 170 rfl) rfl
theorem q209 : (Jvm.Cond.fieldLink "NetSearch" (252 : Nat) "NetSearch" "bestWidth" "I") ∈ lw_all := lw_g (lw_at lw_m1 171 rfl) rfl
theorem q210 : (Jvm.Cond.fieldLink "NetSearch" (255 : Nat) "NetSearch" "bestHeight" "I") ∈ lw_all := lw_g (lw_at lw_m1 172 rfl) rfl
theorem q211 : (Jvm.Cond.fieldLink "NetSearch" (61 : Nat) "NetSearch" "bestX" "[I") ∈ lw_all := lw_g (lw_at lw_m1 173 rfl) rfl
theorem q212 : (Jvm.Cond.fieldLink "NetSearch" (64 : Nat) "NetSearch" "bestY" "[I") ∈ lw_all := lw_g (lw_at lw_m1 174 rfl) rfl
theorem q213 : (Jvm.Cond.fieldLink "NetSearch" (284 : Nat) "NetSearch" "kept" "I") ∈ lw_all := lw_g (lw_at lw_m1 175 rfl) rfl
theorem q214 : (Jvm.Cond.fieldLink "NetSearch" (68 : Nat) "NetSearch" "shapes" "[[I") ∈ lw_all := lw_g (lw_at lw_m1 176 rfl) rfl
theorem q215 : (Jvm.Cond.fieldLink "NetSearch" (72 : Nat) "NetSearch" "sizes" "[I") ∈ lw_all := lw_g (lw_at lw_m1 177 rfl) rfl
theorem q216 : (Jvm.Cond.fieldLink "NetSearch" (75 : Nat) "NetSearch" "image" "[I") ∈ lw_all := lw_g (lw_at lw_m1 178 rfl) rfl
theorem q217 : (Jvm.Cond.fieldLink "NetSearch" (78 : Nat) "NetSearch" "least" "[I") ∈ lw_all := lw_g (lw_at lw_m1 179 rfl) rfl
theorem q218 : (Jvm.Cond.fieldLink "NetSearch" (81 : Nat) "NetSearch" "lain" "[I") ∈ lw_all := lw_g (lw_at lw_m1 180 rfl) rfl
theorem q219 : (Jvm.Cond.fieldLink "NetSearch" (84 : Nat) "NetSearch" "lainRight" "[I") ∈ lw_all := lw_g (lw_at lw_m1 181 rfl) rfl
theorem q220 : (Jvm.Cond.fieldLink "NetSearch" (87 : Nat) "NetSearch" "lainUp" "[I") ∈ lw_all := lw_g (lw_at lw_m1 182 rfl) rfl
theorem q221 : (Jvm.Cond.fieldLink "NetSearch" (90 : Nat) "NetSearch" "beside" "[I") ∈ lw_all := lw_g (lw_at lw_m1 183 rfl) rfl
theorem q222 : (Jvm.Cond.fieldLink "NetSearch" (93 : Nat) "NetSearch" "queue" "[I") ∈ lw_all := lw_g (lw_at lw_m1 184 rfl) rfl
theorem q223 : (Jvm.Cond.laysFinal "NetSearch" "NetSearch" "ways" "[LNetSearch$Way;") ∈ lw_all := lw_g (lw_at lw_m1 185 rfl) rfl
theorem q224 : (Jvm.Cond.soleField "NetSearch" "ways") ∈ lw_all := lw_g (lw_at lw_m1 186 rfl) rfl
theorem q225 : (Jvm.Cond.laysFinal "NetSearch" "NetSearch" "firstRight" "[I") ∈ lw_all := lw_g (lw_at lw_m1 187 rfl) rfl
theorem q226 : (Jvm.Cond.soleField "NetSearch" "firstRight") ∈ lw_all := lw_g (lw_at lw_m1 188 rfl) rfl
theorem q227 : (Jvm.Cond.laysFinal "NetSearch" "NetSearch" "firstUp" "[I") ∈ lw_all := lw_g (lw_at lw_m1 189 rfl) rfl
theorem q228 : (Jvm.Cond.soleField "NetSearch" "firstUp") ∈ lw_all := lw_g (lw_at lw_m1 190 rfl) rfl
theorem q229 : (Jvm.Cond.lays "NetSearch" "NetSearch" "cubes" "I") ∈ lw_all := lw_g (lw_at lw_m1 191 rfl) rfl
theorem q230 : (Jvm.Cond.soleField "NetSearch" "cubes") ∈ lw_all := lw_g (lw_at lw_m1 192 rfl) rfl
theorem q231 : (Jvm.Cond.laysFinal "NetSearch" "NetSearch" "cubeX" "[I") ∈ lw_all := lw_g (lw_at lw_m1 193 rfl) rfl
theorem q232 : (Jvm.Cond.soleField "NetSearch" "cubeX") ∈ lw_all := lw_g (lw_at lw_m1 194 rfl) rfl
theorem q233 : (Jvm.Cond.laysFinal "NetSearch" "NetSearch" "cubeY" "[I") ∈ lw_all := lw_g (lw_at lw_m1 195 rfl) rfl
theorem q234 : (Jvm.Cond.soleField "NetSearch" "cubeY") ∈ lw_all := lw_g (lw_at lw_m1 196 rfl) rfl
theorem q235 : (Jvm.Cond.laysFinal "NetSearch" "NetSearch" "cubeZ" "[I") ∈ lw_all := lw_g (lw_at lw_m1 197 rfl) rfl
theorem q236 : (Jvm.Cond.soleField "NetSearch" "cubeZ") ∈ lw_all := lw_g (lw_at lw_m1 198 rfl) rfl
theorem q237 : (Jvm.Cond.lays "NetSearch" "NetSearch" "faces" "I") ∈ lw_all := lw_g (lw_at lw_m1 199 rfl) rfl
theorem q238 : (Jvm.Cond.soleField "NetSearch" "faces") ∈ lw_all := lw_g (lw_at lw_m1 200 rfl) rfl
theorem q239 : (Jvm.Cond.laysFinal "NetSearch" "NetSearch" "face" "[LNetSearch$Face;") ∈ lw_all := lw_g (lw_at lw_m1 201 rfl) rfl
theorem q240 : (Jvm.Cond.soleField "NetSearch" "face") ∈ lw_all := lw_g (lw_at lw_m1 202 rfl) rfl
theorem q241 : (Jvm.Cond.laysFinal "NetSearch" "NetSearch" "rows" "[[J") ∈ lw_all := lw_g (lw_at lw_m1 203 rfl) rfl
theorem q242 : (Jvm.Cond.soleField "NetSearch" "rows") ∈ lw_all := lw_g (lw_at lw_m1 204 rfl) rfl
theorem q243 : (Jvm.Cond.laysFinal "NetSearch" "NetSearch" "hand" "LNetSearch$Sheet;") ∈ lw_all := lw_g (lw_at lw_m1 205 rfl) rfl
theorem q244 : (Jvm.Cond.soleField "NetSearch" "hand") ∈ lw_all := lw_g (lw_at lw_m1 206 rfl) rfl
theorem q245 : (Jvm.Cond.laysFinal "NetSearch" "NetSearch" "sheet" "LNetSearch$Sheet;") ∈ lw_all := lw_g (lw_at lw_m1 207 rfl) rfl
theorem q246 : (Jvm.Cond.soleField "NetSearch" "sheet") ∈ lw_all := lw_g (lw_at lw_m1 208 rfl) rfl
theorem q247 : (Jvm.Cond.lays "NetSearch" "NetSearch" "choices" "I") ∈ lw_all := lw_g (lw_at lw_m1 209 rfl) rfl
theorem q248 : (Jvm.Cond.soleField "NetSearch" "choices") ∈ lw_all := lw_g (lw_at lw_m1 210 rfl) rfl
theorem q249 : (Jvm.Cond.laysFinal "NetSearch" "NetSearch" "choice" "[I") ∈ lw_all := lw_g (lw_at lw_m1 211 rfl) rfl
theorem q250 : (Jvm.Cond.soleField "NetSearch" "choice") ∈ lw_all := lw_g (lw_at lw_m1 212 rfl) rfl
theorem q251 : (Jvm.Cond.lays "NetSearch" "NetSearch" "at" "I") ∈ lw_all := lw_g (lw_at lw_m1 213 rfl) rfl
theorem q252 : (Jvm.Cond.soleField "NetSearch" "at") ∈ lw_all := lw_g (lw_at lw_m1 214 rfl) rfl
theorem q253 : (Jvm.Cond.lays "NetSearch" "NetSearch" "nets" "I") ∈ lw_all := lw_g (lw_at lw_m1 215 rfl) rfl
theorem q254 : (Jvm.Cond.soleField "NetSearch" "nets") ∈ lw_all := lw_g (lw_at lw_m1 216 rfl) rfl
theorem q255 : (Jvm.Cond.lays "NetSearch" "NetSearch" "work" "I") ∈ lw_all := lw_g (lw_at lw_m1 217 rfl) rfl
theorem q256 : (Jvm.Cond.soleField "NetSearch" "work") ∈ lw_all := lw_g (lw_at lw_m1 218 rfl) rfl
theorem q257 : (Jvm.Cond.lays "NetSearch" "NetSearch" "hasEnded" "Z") ∈ lw_all := lw_g (lw_at lw_m1 219 rfl) rfl
theorem q258 : (Jvm.Cond.soleField "NetSearch" "hasEnded") ∈ lw_all := lw_g (lw_at lw_m1 220 rfl) rfl
theorem q259 : (Jvm.Cond.lays "NetSearch" "NetSearch" "bestNet" "I") ∈ lw_all := lw_g (lw_at lw_m1 221 rfl) rfl
theorem q260 : (Jvm.Cond.soleField "NetSearch" "bestNet") ∈ lw_all := lw_g (lw_at lw_m1 222 rfl) rfl
theorem q261 : (Jvm.Cond.lays "NetSearch" "NetSearch" "bestWidth" "I") ∈ lw_all := lw_g (lw_at lw_m1 223 rfl) rfl
theorem q262 : (Jvm.Cond.soleField "NetSearch" "bestWidth") ∈ lw_all := lw_g (lw_at lw_m1 224 rfl) rfl
theorem q263 : (Jvm.Cond.lays "NetSearch" "NetSearch" "bestHeight" "I") ∈ lw_all := lw_g (lw_at lw_m1 225 rfl) rfl
theorem q264 : (Jvm.Cond.soleField "NetSearch" "bestHeight") ∈ lw_all := lw_g (lw_at lw_m1 226 rfl) rfl
theorem q265 : (Jvm.Cond.laysFinal "NetSearch" "NetSearch" "bestX" "[I") ∈ lw_all := lw_g (lw_at lw_m1 227 rfl) rfl
theorem q266 : (Jvm.Cond.soleField "NetSearch" "bestX") ∈ lw_all := lw_g (lw_at lw_m1 228 rfl) rfl
theorem q267 : (Jvm.Cond.laysFinal "NetSearch" "NetSearch" "bestY" "[I") ∈ lw_all := lw_g (lw_at lw_m1 229 rfl) rfl
theorem q268 : (Jvm.Cond.soleField "NetSearch" "bestY") ∈ lw_all := lw_g (lw_at lw_m1 230 rfl) rfl
theorem q269 : (Jvm.Cond.lays "NetSearch" "NetSearch" "kept" "I") ∈ lw_all := lw_g (lw_at lw_m1 231 rfl) rfl
theorem q270 : (Jvm.Cond.soleField "NetSearch" "kept") ∈ lw_all := lw_g (lw_at lw_m1 232 rfl) rfl
theorem q271 : (Jvm.Cond.laysFinal "NetSearch" "NetSearch" "shapes" "[[I") ∈ lw_all := lw_g (lw_at lw_m1 233 rfl) rfl
theorem q272 : (Jvm.Cond.soleField "NetSearch" "shapes") ∈ lw_all := lw_g (lw_at lw_m1 234 rfl) rfl
theorem q273 : (Jvm.Cond.laysFinal "NetSearch" "NetSearch" "sizes" "[I") ∈ lw_all := lw_g (lw_at lw_m1 235 rfl) rfl
theorem q274 : (Jvm.Cond.soleField "NetSearch" "sizes") ∈ lw_all := lw_g (lw_at lw_m1 236 rfl) rfl
theorem q275 : (Jvm.Cond.laysFinal "NetSearch" "NetSearch" "image" "[I") ∈ lw_all := lw_g (lw_at lw_m1 237 rfl) rfl
theorem q276 : (Jvm.Cond.soleField "NetSearch" "image") ∈ lw_all := lw_g (lw_at lw_m1 238 rfl) rfl
theorem q277 : (Jvm.Cond.laysFinal "NetSearch" "NetSearch" "least" "[I") ∈ lw_all := lw_g (lw_at lw_m1 239 rfl) rfl
theorem q278 : (Jvm.Cond.soleField "NetSearch" "least") ∈ lw_all := lw_g (lw_at lw_m2 0 rfl) rfl
theorem q279 : (Jvm.Cond.laysFinal "NetSearch" "NetSearch" "lain" "[I") ∈ lw_all := lw_g (lw_at lw_m2 1 rfl) rfl
theorem q280 : (Jvm.Cond.soleField "NetSearch" "lain") ∈ lw_all := lw_g (lw_at lw_m2 2 rfl) rfl
theorem q281 : (Jvm.Cond.laysFinal "NetSearch" "NetSearch" "lainRight" "[I") ∈ lw_all := lw_g (lw_at lw_m2 3 rfl) rfl
theorem q282 : (Jvm.Cond.soleField "NetSearch" "lainRight") ∈ lw_all := lw_g (lw_at lw_m2 4 rfl) rfl
theorem q283 : (Jvm.Cond.laysFinal "NetSearch" "NetSearch" "lainUp" "[I") ∈ lw_all := lw_g (lw_at lw_m2 5 rfl) rfl
theorem q284 : (Jvm.Cond.soleField "NetSearch" "lainUp") ∈ lw_all := lw_g (lw_at lw_m2 6 rfl) rfl
theorem q285 : (Jvm.Cond.laysFinal "NetSearch" "NetSearch" "beside" "[I") ∈ lw_all := lw_g (lw_at lw_m2 7 rfl) rfl
theorem q286 : (Jvm.Cond.soleField "NetSearch" "beside") ∈ lw_all := lw_g (lw_at lw_m2 8 rfl) rfl
theorem q287 : (Jvm.Cond.laysFinal "NetSearch" "NetSearch" "queue" "[I") ∈ lw_all := lw_g (lw_at lw_m2 9 rfl) rfl
theorem q288 : (Jvm.Cond.soleField "NetSearch" "queue") ∈ lw_all := lw_g (lw_at lw_m2 10 rfl) rfl
theorem q289 : (Jvm.Cond.superclass "NetSearch" "java/lang/Object") ∈ lw_all := lw_g (lw_at lw_m2 11 rfl) rfl
theorem q291 : (Jvm.Cond.instanceMethod ({ cls := "NetSearch", name := "cube", desc := "(III)I" } : Jvm.MethodName)) ∈ lw_all := lw_g (lw_at lw_m2 13 rfl) rfl
theorem q292 : (Jvm.Cond.selects "NetSearch" ({ cls := "NetSearch", name := "cube", desc := "(III)I" } : Jvm.MethodName) ({ cls := "NetSearch", name := "cube", desc := "(III)I" } : Jvm.MethodName)) ∈ lw_all := lw_g (lw_at lw_m2 14 rfl) rfl
theorem q293 : (Jvm.Cond.code ({ cls := "NetSearch", name := "cube", desc := "(III)I" } : Jvm.MethodName) prog_1_method_8_code (9 : Nat) (Option.some Jvm.ClassFile.FieldType.int)) ∈ lw_all := lw_g (lw_at lw_m2 15 rfl) rfl
theorem q294 : (Jvm.Cond.methodLink "NetSearch" (169 : Nat) ({ cls := "NetSearch", name := "in", desc := "(III)Z" } : Jvm.MethodName)) ∈ lw_all := lw_g (lw_at lw_m2 16 rfl) rfl
theorem q295 : (Jvm.Cond.static ({ cls := "NetSearch", name := "in", desc := "(III)Z" } : Jvm.MethodName)) ∈ lw_all := lw_g (lw_at lw_m2 17 rfl) rfl
theorem q296 : (Jvm.Cond.code ({ cls := "NetSearch", name := "in", desc := "(III)Z" } : Jvm.MethodName) prog_1_method_1_code (3 : Nat) (Option.some Jvm.ClassFile.FieldType.boolean)) ∈ lw_all := lw_g (lw_at lw_m2 18 rfl) rfl
theorem q298 : (Jvm.Cond.instanceMethod ({ cls := "NetSearch", name := "clear", desc := "()I" } : Jvm.MethodName)) ∈ lw_all := lw_g (lw_at lw_m2 20 rfl) rfl
theorem q299 : (Jvm.Cond.selects "NetSearch" ({ cls := "NetSearch", name := "clear", desc := "()I" } : Jvm.MethodName) ({ cls := "NetSearch", name := "clear", desc := "()I" } : Jvm.MethodName)) ∈ lw_all := lw_g (lw_at lw_m2 21 rfl) rfl
theorem q300 : (Jvm.Cond.code ({ cls := "NetSearch", name := "clear", desc := "()I" } : Jvm.MethodName) prog_1_method_9_code (2 : Nat) (Option.some Jvm.ClassFile.FieldType.int)) ∈ lw_all := lw_g (lw_at lw_m2 22 rfl) rfl
theorem q302 : (Jvm.Cond.instanceMethod ({ cls := "NetSearch", name := "face", desc := "(II)I" } : Jvm.MethodName)) ∈ lw_all := lw_g (lw_at lw_m2 24 rfl) rfl
theorem q303 : (Jvm.Cond.selects "NetSearch" ({ cls := "NetSearch", name := "face", desc := "(II)I" } : Jvm.MethodName) ({ cls := "NetSearch", name := "face", desc := "(II)I" } : Jvm.MethodName)) ∈ lw_all := lw_g (lw_at lw_m2 25 rfl) rfl
theorem q304 : (Jvm.Cond.code ({ cls := "NetSearch", name := "face", desc := "(II)I" } : Jvm.MethodName) prog_1_method_11_code (3 : Nat) (Option.some Jvm.ClassFile.FieldType.int)) ∈ lw_all := lw_g (lw_at lw_m2 26 rfl) rfl
theorem q305 : (Jvm.Cond.methodLink "NetSearch" (173 : Nat) ({ cls := "NetSearch", name := "isFace", desc := "(I)Z" } : Jvm.MethodName)) ∈ lw_all := lw_g (lw_at lw_m2 27 rfl) rfl
theorem q306 : (Jvm.Cond.privateMethod ({ cls := "NetSearch", name := "isFace", desc := "(I)Z" } : Jvm.MethodName)) ∈ lw_tbl := lw_at lw_m2 28 rfl
theorem q307 : (Jvm.Cond.instanceMethod ({ cls := "NetSearch", name := "isFace", desc := "(I)Z" } : Jvm.MethodName)) ∈ lw_all := lw_g (lw_at lw_m2 29 rfl) rfl
theorem q308 : (Jvm.Cond.code ({ cls := "NetSearch", name := "isFace", desc := "(I)Z" } : Jvm.MethodName) prog_1_method_10_code (2 : Nat) (Option.some Jvm.ClassFile.FieldType.boolean)) ∈ lw_all := lw_g (lw_at lw_m2 30 rfl) rfl
theorem q310 : (Jvm.Cond.instanceMethod ({ cls := "NetSearch", name := "across", desc := "(II)I" } : Jvm.MethodName)) ∈ lw_all := lw_g (lw_at lw_m2 32 rfl) rfl
theorem q311 : (Jvm.Cond.selects "NetSearch" ({ cls := "NetSearch", name := "across", desc := "(II)I" } : Jvm.MethodName) ({ cls := "NetSearch", name := "across", desc := "(II)I" } : Jvm.MethodName)) ∈ lw_all := lw_g (lw_at lw_m2 33 rfl) rfl
theorem q312 : (Jvm.Cond.code ({ cls := "NetSearch", name := "across", desc := "(II)I" } : Jvm.MethodName) prog_1_method_12_code (3 : Nat) (Option.some Jvm.ClassFile.FieldType.int)) ∈ lw_all := lw_g (lw_at lw_m2 34 rfl) rfl
theorem q314 : (Jvm.Cond.instanceMethod ({ cls := "NetSearch", name := "trees", desc := "()J" } : Jvm.MethodName)) ∈ lw_all := lw_g (lw_at lw_m2 36 rfl) rfl
theorem q315 : (Jvm.Cond.selects "NetSearch" ({ cls := "NetSearch", name := "trees", desc := "()J" } : Jvm.MethodName) ({ cls := "NetSearch", name := "trees", desc := "()J" } : Jvm.MethodName)) ∈ lw_all := lw_g (lw_at lw_m2 37 rfl) rfl
theorem q316 : (Jvm.Cond.code ({ cls := "NetSearch", name := "trees", desc := "()J" } : Jvm.MethodName) prog_1_method_15_code (11 : Nat) (Option.some Jvm.ClassFile.FieldType.long)) ∈ lw_all := lw_g (lw_at lw_m2 38 rfl) rfl
theorem q317 : (Jvm.Cond.constantLong "NetSearch" (191 : Nat) (-2 : Int64)) ∈ lw_all := lw_g (lw_at lw_m2 39 rfl) rfl
theorem q318 : (Jvm.Cond.constantLong "NetSearch" (193 : Nat) (2147483647 : Int64)) ∈ lw_all := lw_g (lw_at lw_m2 40 rfl) rfl
theorem q319 : (Jvm.Cond.constantLong "NetSearch" (195 : Nat) (2147483629 : Int64)) ∈ lw_all := lw_g (lw_at lw_m2 41 rfl) rfl
theorem q320 : (Jvm.Cond.methodLink "NetSearch" (197 : Nat) ({ cls := "NetSearch", name := "treesBy", desc := "(J)J" } : Jvm.MethodName)) ∈ lw_all := lw_g (lw_at lw_m2 42 rfl) rfl
theorem q321 : (Jvm.Cond.privateMethod ({ cls := "NetSearch", name := "treesBy", desc := "(J)J" } : Jvm.MethodName)) ∈ lw_tbl := lw_at lw_m2 43 rfl
theorem q322 : (Jvm.Cond.instanceMethod ({ cls := "NetSearch", name := "treesBy", desc := "(J)J" } : Jvm.MethodName)) ∈ lw_all := lw_g (lw_at lw_m2 44 rfl) rfl
theorem q323 : (Jvm.Cond.code ({ cls := "NetSearch", name := "treesBy", desc := "(J)J" } : Jvm.MethodName) prog_1_method_13_code (14 : Nat) (Option.some Jvm.ClassFile.FieldType.long)) ∈ lw_all := lw_g (lw_at lw_m2 45 rfl) rfl
theorem q324 : (Jvm.Cond.methodLink "NetSearch" (177 : Nat) ({ cls := "java/util/Arrays", name := "fill", desc := "([JJ)V" } : Jvm.MethodName)) ∈ lw_all := lw_g (lw_at lw_m2 46 rfl) rfl
theorem q327 : (Jvm.Cond.constantLong "NetSearch" (183 : Nat) (4 : Int64)) ∈ lw_all := lw_g (lw_at lw_m2 49 rfl) rfl
theorem q328 : (Jvm.Cond.constantLong "NetSearch" (185 : Nat) (2 : Int64)) ∈ lw_all := lw_g (lw_at lw_m2 50 rfl) rfl
theorem q329 : (Jvm.Cond.methodLink "NetSearch" (187 : Nat) ({ cls := "NetSearch", name := "power", desc := "(JJJ)J" } : Jvm.MethodName)) ∈ lw_all := lw_g (lw_at lw_m2 51 rfl) rfl
theorem q330 : (Jvm.Cond.static ({ cls := "NetSearch", name := "power", desc := "(JJJ)J" } : Jvm.MethodName)) ∈ lw_all := lw_g (lw_at lw_m2 52 rfl) rfl
theorem q331 : (Jvm.Cond.code ({ cls := "NetSearch", name := "power", desc := "(JJJ)J" } : Jvm.MethodName) prog_1_method_14_code (12 : Nat) (Option.some Jvm.ClassFile.FieldType.long)) ∈ lw_all := lw_g (lw_at lw_m2 53 rfl) rfl
theorem q333 : (Jvm.Cond.instanceMethod ({ cls := "NetSearch", name := "lay", desc := "(I)I" } : Jvm.MethodName)) ∈ lw_all := lw_g (lw_at lw_m2 55 rfl) rfl
theorem q334 : (Jvm.Cond.selects "NetSearch" ({ cls := "NetSearch", name := "lay", desc := "(I)I" } : Jvm.MethodName) ({ cls := "NetSearch", name := "lay", desc := "(I)I" } : Jvm.MethodName)) ∈ lw_all := lw_g (lw_at lw_m2 56 rfl) rfl
theorem q335 : (Jvm.Cond.code ({ cls := "NetSearch", name := "lay", desc := "(I)I" } : Jvm.MethodName) prog_1_method_16_code (2 : Nat) (Option.some Jvm.ClassFile.FieldType.int)) ∈ lw_all := lw_g (lw_at lw_m2 57 rfl) rfl
theorem q337 : (Jvm.Cond.instanceMethod ({ cls := "NetSearch", name := "grow", desc := "(II)I" } : Jvm.MethodName)) ∈ lw_all := lw_g (lw_at lw_m2 59 rfl) rfl
theorem q338 : (Jvm.Cond.selects "NetSearch" ({ cls := "NetSearch", name := "grow", desc := "(II)I" } : Jvm.MethodName) ({ cls := "NetSearch", name := "grow", desc := "(II)I" } : Jvm.MethodName)) ∈ lw_all := lw_g (lw_at lw_m2 60 rfl) rfl
theorem q339 : (Jvm.Cond.code ({ cls := "NetSearch", name := "grow", desc := "(II)I" } : Jvm.MethodName) prog_1_method_17_code (5 : Nat) (Option.some Jvm.ClassFile.FieldType.int)) ∈ lw_all := lw_g (lw_at lw_m2 61 rfl) rfl
theorem q340 : (Jvm.Cond.methodLink "NetSearch" (205 : Nat) ({ cls := "NetSearch$Sheet", name := "across", desc := "(II)I" } : Jvm.MethodName)) ∈ lw_all := lw_g (lw_at lw_m2 62 rfl) rfl
theorem q348 : (Jvm.Cond.methodLink "NetSearch" (207 : Nat) ({ cls := "NetSearch$Sheet", name := "nextX", desc := "(II)I" } : Jvm.MethodName)) ∈ lw_all := lw_g (lw_at lw_m2 70 rfl) rfl
theorem q352 : (Jvm.Cond.methodLink "NetSearch" (210 : Nat) ({ cls := "NetSearch$Sheet", name := "nextY", desc := "(II)I" } : Jvm.MethodName)) ∈ lw_all := lw_g (lw_at lw_m2 74 rfl) rfl
theorem q356 : (Jvm.Cond.methodLink "NetSearch" (213 : Nat) ({ cls := "NetSearch$Sheet", name := "at", desc := "(II)I" } : Jvm.MethodName)) ∈ lw_all := lw_g (lw_at lw_m2 78 rfl) rfl
theorem q360 : (Jvm.Cond.methodLink "NetSearch" (215 : Nat) ({ cls := "NetSearch$Sheet", name := "join", desc := "(II)V" } : Jvm.MethodName)) ∈ lw_all := lw_g (lw_at lw_m2 82 rfl) rfl
theorem q372 : (Jvm.Cond.instanceMethod ({ cls := "NetSearch", name := "paper", desc := "(II)I" } : Jvm.MethodName)) ∈ lw_all := lw_g (lw_at lw_m2 94 rfl) rfl
theorem q373 : (Jvm.Cond.selects "NetSearch" ({ cls := "NetSearch", name := "paper", desc := "(II)I" } : Jvm.MethodName) ({ cls := "NetSearch", name := "paper", desc := "(II)I" } : Jvm.MethodName)) ∈ lw_all := lw_g (lw_at lw_m2 95 rfl) rfl
theorem q374 : (Jvm.Cond.code ({ cls := "NetSearch", name := "paper", desc := "(II)I" } : Jvm.MethodName) prog_1_method_18_code (3 : Nat) (Option.some Jvm.ClassFile.FieldType.int)) ∈ lw_all := lw_g (lw_at lw_m2 96 rfl) rfl
theorem q376 : (Jvm.Cond.instanceMethod ({ cls := "NetSearch", name := "run", desc := "(I)I" } : Jvm.MethodName)) ∈ lw_all := lw_g (lw_at lw_m2 98 rfl) rfl
theorem q377 : (Jvm.Cond.selects "NetSearch" ({ cls := "NetSearch", name := "run", desc := "(I)I" } : Jvm.MethodName) ({ cls := "NetSearch", name := "run", desc := "(I)I" } : Jvm.MethodName)) ∈ lw_all := lw_g (lw_at lw_m2 99 rfl) rfl
theorem q378 : (Jvm.Cond.code ({ cls := "NetSearch", name := "run", desc := "(I)I" } : Jvm.MethodName) prog_1_method_19_code (6 : Nat) (Option.some Jvm.ClassFile.FieldType.int)) ∈ lw_all := lw_g (lw_at lw_m2 100 rfl) rfl
theorem q379 : (Jvm.Cond.methodLink "NetSearch" (232 : Nat) ({ cls := "NetSearch", name := "found", desc := "()V" } : Jvm.MethodName)) ∈ lw_all := lw_g (lw_at lw_m2 101 rfl) rfl
theorem q380 : (Jvm.Cond.privateMethod ({ cls := "NetSearch", name := "found", desc := "()V" } : Jvm.MethodName)) ∈ lw_tbl := lw_at lw_m2 102 rfl
theorem q381 : (Jvm.Cond.instanceMethod ({ cls := "NetSearch", name := "found", desc := "()V" } : Jvm.MethodName)) ∈ lw_all := lw_g (lw_at lw_m2 103 rfl) rfl
theorem q382 : (Jvm.Cond.code ({ cls := "NetSearch", name := "found", desc := "()V" } : Jvm.MethodName) prog_1_method_21_code (7 : Nat) (Option.none : Option Jvm.ClassFile.FieldType)) ∈ lw_all := lw_g (lw_at lw_m2 104 rfl) rfl
theorem q383 : (Jvm.Cond.methodLink "NetSearch" (244 : Nat) ({ cls := "java/lang/Math", name := "min", desc := "(II)I" } : Jvm.MethodName)) ∈ lw_all := lw_g (lw_at lw_m2 105 rfl) rfl
theorem q386 : (Jvm.Cond.methodLink "NetSearch" (249 : Nat) ({ cls := "java/lang/Math", name := "max", desc := "(II)I" } : Jvm.MethodName)) ∈ lw_all := lw_g (lw_at lw_m2 108 rfl) rfl
theorem q389 : (Jvm.Cond.methodLink "NetSearch" (258 : Nat) ({ cls := "java/lang/System", name := "arraycopy", desc := "(Ljava/lang/Object;ILjava/lang/Object;II)V" } : Jvm.MethodName)) ∈ lw_all := lw_g (lw_at lw_m2 111 rfl) rfl
theorem q392 : (Jvm.Cond.methodLink "NetSearch" (264 : Nat) ({ cls := "NetSearch", name := "keep", desc := "()V" } : Jvm.MethodName)) ∈ lw_all := lw_g (lw_at lw_m2 114 rfl) rfl
theorem q393 : (Jvm.Cond.privateMethod ({ cls := "NetSearch", name := "keep", desc := "()V" } : Jvm.MethodName)) ∈ lw_tbl := lw_at lw_m2 115 rfl
theorem q394 : (Jvm.Cond.instanceMethod ({ cls := "NetSearch", name := "keep", desc := "()V" } : Jvm.MethodName)) ∈ lw_all := lw_g (lw_at lw_m2 116 rfl) rfl
theorem q395 : (Jvm.Cond.code ({ cls := "NetSearch", name := "keep", desc := "()V" } : Jvm.MethodName) prog_1_method_26_code (2 : Nat) (Option.none : Option Jvm.ClassFile.FieldType)) ∈ lw_all := lw_g (lw_at lw_m2 117 rfl) rfl
theorem q396 : (Jvm.Cond.methodLink "NetSearch" (277 : Nat) ({ cls := "NetSearch", name := "imageBy", desc := "(I)V" } : Jvm.MethodName)) ∈ lw_all := lw_g (lw_at lw_m2 118 rfl) rfl
theorem q397 : (Jvm.Cond.privateMethod ({ cls := "NetSearch", name := "imageBy", desc := "(I)V" } : Jvm.MethodName)) ∈ lw_tbl := lw_at lw_m2 119 rfl
theorem q398 : (Jvm.Cond.instanceMethod ({ cls := "NetSearch", name := "imageBy", desc := "(I)V" } : Jvm.MethodName)) ∈ lw_all := lw_g (lw_at lw_m2 120 rfl) rfl
theorem q399 : (Jvm.Cond.code ({ cls := "NetSearch", name := "imageBy", desc := "(I)V" } : Jvm.MethodName) prog_1_method_24_code (7 : Nat) (Option.none : Option Jvm.ClassFile.FieldType)) ∈ lw_all := lw_g (lw_at lw_m2 121 rfl) rfl
theorem q400 : (Jvm.Cond.methodLink "NetSearch" (267 : Nat) ({ cls := "NetSearch", name := "turnedX", desc := "(III)I" } : Jvm.MethodName)) ∈ lw_all := lw_g (lw_at lw_m2 122 rfl) rfl
theorem q401 : (Jvm.Cond.static ({ cls := "NetSearch", name := "turnedX", desc := "(III)I" } : Jvm.MethodName)) ∈ lw_all := lw_g (lw_at lw_m2 123 rfl) rfl
theorem q402 : (Jvm.Cond.code ({ cls := "NetSearch", name := "turnedX", desc := "(III)I" } : Jvm.MethodName) prog_1_method_22_code (4 : Nat) (Option.some Jvm.ClassFile.FieldType.int)) ∈ lw_all := lw_g (lw_at lw_m2 124 rfl) rfl
theorem q403 : (Jvm.Cond.methodLink "NetSearch" (270 : Nat) ({ cls := "NetSearch", name := "turnedY", desc := "(III)I" } : Jvm.MethodName)) ∈ lw_all := lw_g (lw_at lw_m2 125 rfl) rfl
theorem q404 : (Jvm.Cond.static ({ cls := "NetSearch", name := "turnedY", desc := "(III)I" } : Jvm.MethodName)) ∈ lw_all := lw_g (lw_at lw_m2 126 rfl) rfl
theorem q405 : (Jvm.Cond.code ({ cls := "NetSearch", name := "turnedY", desc := "(III)I" } : Jvm.MethodName) prog_1_method_23_code (4 : Nat) (Option.some Jvm.ClassFile.FieldType.int)) ∈ lw_all := lw_g (lw_at lw_m2 127 rfl) rfl
theorem q406 : (Jvm.Cond.methodLink "NetSearch" (273 : Nat) ({ cls := "java/util/Arrays", name := "sort", desc := "([III)V" } : Jvm.MethodName)) ∈ lw_all := lw_g (lw_at lw_m2 128 rfl) rfl
theorem q450 : (Jvm.Cond.methodLink "NetSearch" (280 : Nat) ({ cls := "NetSearch", name := "isLess", desc := "([I[II)Z" } : Jvm.MethodName)) ∈ lw_all := lw_g (lw_at lw_m2 172 rfl) rfl
theorem q451 : (Jvm.Cond.static ({ cls := "NetSearch", name := "isLess", desc := "([I[II)Z" } : Jvm.MethodName)) ∈ lw_all := lw_g (lw_at lw_m2 173 rfl) rfl
theorem q452 : (Jvm.Cond.code ({ cls := "NetSearch", name := "isLess", desc := "([I[II)Z" } : Jvm.MethodName) prog_1_method_25_code (4 : Nat) (Option.some Jvm.ClassFile.FieldType.boolean)) ∈ lw_all := lw_g (lw_at lw_m2 174 rfl) rfl
theorem q453 : (Jvm.Cond.methodLink "NetSearch" (235 : Nat) ({ cls := "NetSearch", name := "back", desc := "()V" } : Jvm.MethodName)) ∈ lw_all := lw_g (lw_at lw_m2 175 rfl) rfl
theorem q454 : (Jvm.Cond.privateMethod ({ cls := "NetSearch", name := "back", desc := "()V" } : Jvm.MethodName)) ∈ lw_tbl := lw_at lw_m2 176 rfl
theorem q455 : (Jvm.Cond.instanceMethod ({ cls := "NetSearch", name := "back", desc := "()V" } : Jvm.MethodName)) ∈ lw_all := lw_g (lw_at lw_m2 177 rfl) rfl
theorem q456 : (Jvm.Cond.code ({ cls := "NetSearch", name := "back", desc := "()V" } : Jvm.MethodName) prog_1_method_20_code (1 : Nat) (Option.none : Option Jvm.ClassFile.FieldType)) ∈ lw_all := lw_g (lw_at lw_m2 178 rfl) rfl
theorem q457 : (Jvm.Cond.methodLink "NetSearch" (241 : Nat) ({ cls := "NetSearch$Sheet", name := "drop", desc := "()V" } : Jvm.MethodName)) ∈ lw_all := lw_g (lw_at lw_m2 179 rfl) rfl
theorem q459 : (Jvm.Cond.instanceMethod ({ cls := "NetSearch", name := "forget", desc := "()I" } : Jvm.MethodName)) ∈ lw_all := lw_g (lw_at lw_m2 181 rfl) rfl
theorem q460 : (Jvm.Cond.selects "NetSearch" ({ cls := "NetSearch", name := "forget", desc := "()I" } : Jvm.MethodName) ({ cls := "NetSearch", name := "forget", desc := "()I" } : Jvm.MethodName)) ∈ lw_all := lw_g (lw_at lw_m2 182 rfl) rfl
theorem q461 : (Jvm.Cond.code ({ cls := "NetSearch", name := "forget", desc := "()I" } : Jvm.MethodName) prog_1_method_27_code (2 : Nat) (Option.some Jvm.ClassFile.FieldType.int)) ∈ lw_all := lw_g (lw_at lw_m2 183 rfl) rfl
theorem q463 : (Jvm.Cond.instanceMethod ({ cls := "NetSearch", name := "told", desc := "(I)I" } : Jvm.MethodName)) ∈ lw_all := lw_g (lw_at lw_m2 185 rfl) rfl
theorem q464 : (Jvm.Cond.selects "NetSearch" ({ cls := "NetSearch", name := "told", desc := "(I)I" } : Jvm.MethodName) ({ cls := "NetSearch", name := "told", desc := "(I)I" } : Jvm.MethodName)) ∈ lw_all := lw_g (lw_at lw_m2 186 rfl) rfl
theorem q465 : (Jvm.Cond.code ({ cls := "NetSearch", name := "told", desc := "(I)I" } : Jvm.MethodName) prog_1_method_28_code (2 : Nat) (Option.some Jvm.ClassFile.FieldType.int)) ∈ lw_all := lw_g (lw_at lw_m2 187 rfl) rfl
theorem q467 : (Jvm.Cond.instanceMethod ({ cls := "NetSearch", name := "best", desc := "(II)I" } : Jvm.MethodName)) ∈ lw_all := lw_g (lw_at lw_m2 189 rfl) rfl
theorem q468 : (Jvm.Cond.selects "NetSearch" ({ cls := "NetSearch", name := "best", desc := "(II)I" } : Jvm.MethodName) ({ cls := "NetSearch", name := "best", desc := "(II)I" } : Jvm.MethodName)) ∈ lw_all := lw_g (lw_at lw_m2 190 rfl) rfl
theorem q469 : (Jvm.Cond.code ({ cls := "NetSearch", name := "best", desc := "(II)I" } : Jvm.MethodName) prog_1_method_29_code (3 : Nat) (Option.some Jvm.ClassFile.FieldType.int)) ∈ lw_all := lw_g (lw_at lw_m2 191 rfl) rfl
theorem q471 : (Jvm.Cond.instanceMethod ({ cls := "NetSearch", name := "size", desc := "(I)I" } : Jvm.MethodName)) ∈ lw_all := lw_g (lw_at lw_m2 193 rfl) rfl
theorem q472 : (Jvm.Cond.selects "NetSearch" ({ cls := "NetSearch", name := "size", desc := "(I)I" } : Jvm.MethodName) ({ cls := "NetSearch", name := "size", desc := "(I)I" } : Jvm.MethodName)) ∈ lw_all := lw_g (lw_at lw_m2 194 rfl) rfl
theorem q473 : (Jvm.Cond.code ({ cls := "NetSearch", name := "size", desc := "(I)I" } : Jvm.MethodName) prog_1_method_30_code (2 : Nat) (Option.some Jvm.ClassFile.FieldType.int)) ∈ lw_all := lw_g (lw_at lw_m2 195 rfl) rfl
theorem q475 : (Jvm.Cond.instanceMethod ({ cls := "NetSearch", name := "shape", desc := "(III)I" } : Jvm.MethodName)) ∈ lw_all := lw_g (lw_at lw_m2 197 rfl) rfl
theorem q476 : (Jvm.Cond.selects "NetSearch" ({ cls := "NetSearch", name := "shape", desc := "(III)I" } : Jvm.MethodName) ({ cls := "NetSearch", name := "shape", desc := "(III)I" } : Jvm.MethodName)) ∈ lw_all := lw_g (lw_at lw_m2 198 rfl) rfl
theorem q477 : (Jvm.Cond.code ({ cls := "NetSearch", name := "shape", desc := "(III)I" } : Jvm.MethodName) prog_1_method_31_code (4 : Nat) (Option.some Jvm.ClassFile.FieldType.int)) ∈ lw_all := lw_g (lw_at lw_m2 199 rfl) rfl
theorem q479 : (Jvm.Cond.instanceMethod ({ cls := "NetSearch", name := "wraps", desc := "(I)I" } : Jvm.MethodName)) ∈ lw_all := lw_g (lw_at lw_m2 201 rfl) rfl
theorem q480 : (Jvm.Cond.selects "NetSearch" ({ cls := "NetSearch", name := "wraps", desc := "(I)I" } : Jvm.MethodName) ({ cls := "NetSearch", name := "wraps", desc := "(I)I" } : Jvm.MethodName)) ∈ lw_all := lw_g (lw_at lw_m2 202 rfl) rfl
theorem q481 : (Jvm.Cond.code ({ cls := "NetSearch", name := "wraps", desc := "(I)I" } : Jvm.MethodName) prog_1_method_37_code (5 : Nat) (Option.some Jvm.ClassFile.FieldType.int)) ∈ lw_all := lw_g (lw_at lw_m2 203 rfl) rfl
theorem q482 : (Jvm.Cond.methodLink "NetSearch" (305 : Nat) ({ cls := "NetSearch", name := "findBeside", desc := "(II)V" } : Jvm.MethodName)) ∈ lw_all := lw_g (lw_at lw_m2 204 rfl) rfl
theorem q483 : (Jvm.Cond.privateMethod ({ cls := "NetSearch", name := "findBeside", desc := "(II)V" } : Jvm.MethodName)) ∈ lw_tbl := lw_at lw_m2 205 rfl
theorem q484 : (Jvm.Cond.instanceMethod ({ cls := "NetSearch", name := "findBeside", desc := "(II)V" } : Jvm.MethodName)) ∈ lw_all := lw_g (lw_at lw_m2 206 rfl) rfl
theorem q485 : (Jvm.Cond.code ({ cls := "NetSearch", name := "findBeside", desc := "(II)V" } : Jvm.MethodName) prog_1_method_35_code (7 : Nat) (Option.none : Option Jvm.ClassFile.FieldType)) ∈ lw_all := lw_g (lw_at lw_m2 207 rfl) rfl
theorem q486 : (Jvm.Cond.methodLink "NetSearch" (287 : Nat) ({ cls := "java/util/Arrays", name := "fill", desc := "([II)V" } : Jvm.MethodName)) ∈ lw_all := lw_g (lw_at lw_m2 208 rfl) rfl
theorem q489 : (Jvm.Cond.methodLink "NetSearch" (290 : Nat) ({ cls := "NetSearch", name := "imageX", desc := "(III)I" } : Jvm.MethodName)) ∈ lw_all := lw_g (lw_at lw_m2 211 rfl) rfl
theorem q490 : (Jvm.Cond.privateMethod ({ cls := "NetSearch", name := "imageX", desc := "(III)I" } : Jvm.MethodName)) ∈ lw_tbl := lw_at lw_m2 212 rfl
theorem q491 : (Jvm.Cond.instanceMethod ({ cls := "NetSearch", name := "imageX", desc := "(III)I" } : Jvm.MethodName)) ∈ lw_all := lw_g (lw_at lw_m2 213 rfl) rfl
theorem q492 : (Jvm.Cond.code ({ cls := "NetSearch", name := "imageX", desc := "(III)I" } : Jvm.MethodName) prog_1_method_32_code (4 : Nat) (Option.some Jvm.ClassFile.FieldType.int)) ∈ lw_all := lw_g (lw_at lw_m2 214 rfl) rfl
theorem q493 : (Jvm.Cond.methodLink "NetSearch" (293 : Nat) ({ cls := "NetSearch", name := "imageY", desc := "(III)I" } : Jvm.MethodName)) ∈ lw_all := lw_g (lw_at lw_m2 215 rfl) rfl
theorem q494 : (Jvm.Cond.privateMethod ({ cls := "NetSearch", name := "imageY", desc := "(III)I" } : Jvm.MethodName)) ∈ lw_tbl := lw_at lw_m2 216 rfl
theorem q495 : (Jvm.Cond.instanceMethod ({ cls := "NetSearch", name := "imageY", desc := "(III)I" } : Jvm.MethodName)) ∈ lw_all := lw_g (lw_at lw_m2 217 rfl) rfl
theorem q496 : (Jvm.Cond.code ({ cls := "NetSearch", name := "imageY", desc := "(III)I" } : Jvm.MethodName) prog_1_method_33_code (4 : Nat) (Option.some Jvm.ClassFile.FieldType.int)) ∈ lw_all := lw_g (lw_at lw_m2 218 rfl) rfl
theorem q497 : (Jvm.Cond.methodLink "NetSearch" (308 : Nat) ({ cls := "NetSearch", name := "isWrapped", desc := "(II)Z" } : Jvm.MethodName)) ∈ lw_all := lw_g (lw_at lw_m2 219 rfl) rfl
theorem q498 : (Jvm.Cond.privateMethod ({ cls := "NetSearch", name := "isWrapped", desc := "(II)Z" } : Jvm.MethodName)) ∈ lw_tbl := lw_at lw_m2 220 rfl
theorem q499 : (Jvm.Cond.instanceMethod ({ cls := "NetSearch", name := "isWrapped", desc := "(II)Z" } : Jvm.MethodName)) ∈ lw_all := lw_g (lw_at lw_m2 221 rfl) rfl
theorem q500 : (Jvm.Cond.code ({ cls := "NetSearch", name := "isWrapped", desc := "(II)Z" } : Jvm.MethodName) prog_1_method_36_code (11 : Nat) (Option.some Jvm.ClassFile.FieldType.boolean)) ∈ lw_all := lw_g (lw_at lw_m2 222 rfl) rfl
theorem q501 : (Jvm.Cond.methodLink "NetSearch" (296 : Nat) ({ cls := "NetSearch", name := "agrees", desc := "(III)Z" } : Jvm.MethodName)) ∈ lw_all := lw_g (lw_at lw_m2 223 rfl) rfl
theorem q502 : (Jvm.Cond.privateMethod ({ cls := "NetSearch", name := "agrees", desc := "(III)Z" } : Jvm.MethodName)) ∈ lw_tbl := lw_at lw_m2 224 rfl
theorem q503 : (Jvm.Cond.instanceMethod ({ cls := "NetSearch", name := "agrees", desc := "(III)Z" } : Jvm.MethodName)) ∈ lw_all := lw_g (lw_at lw_m2 225 rfl) rfl
theorem q504 : (Jvm.Cond.code ({ cls := "NetSearch", name := "agrees", desc := "(III)Z" } : Jvm.MethodName) prog_1_method_34_code (9 : Nat) (Option.some Jvm.ClassFile.FieldType.boolean)) ∈ lw_all := lw_g (lw_at lw_m2 226 rfl) rfl
theorem q505 : (Jvm.Cond.methodLink "NetSearch" (299 : Nat) ({ cls := "java/lang/Integer", name := "bitCount", desc := "(I)I" } : Jvm.MethodName)) ∈ lw_all := lw_g (lw_at lw_m2 227 rfl) rfl
theorem q831 : (Jvm.Cond.fieldLinkNest "NetSearch" (104 : Nat) "NetSearch$Way" "x" "I" "NetSearch") ∈ lw_tbl := lw_at lw_m4 73 rfl
theorem q832 : (Jvm.Cond.fieldLinkNest "NetSearch" (107 : Nat) "NetSearch$Way" "y" "I" "NetSearch") ∈ lw_tbl := lw_at lw_m4 74 rfl
theorem q833 : (Jvm.Cond.fieldLinkNest "NetSearch" (110 : Nat) "NetSearch$Way" "z" "I" "NetSearch") ∈ lw_tbl := lw_at lw_m4 75 rfl
theorem in_X0 : ∀ w ∈ wsX00, w ∈ lw_all := lw_in wsX00 [223, 225, 227, 229, 231, 233, 235, 237, 239, 241, 243, 245, 247, 249, 251, 253, 255, 257, 259, 261, 263, 265, 267, 269, 271, 273, 275, 277, 279, 281, 283, 285, 287] (by decide +kernel) (by decide +kernel)

/-! NetSearch$Way -/
def RX1 : String := "NetSearch$Way"
abbrev cX1_values : ByteArray := prog_4_method_1_code
def yX1_values : MethodName := ⟨RX1, "values", "()[LNetSearch$Way;"⟩
theorem q41 : (Jvm.Cond.initialized "NetSearch$Way") ∈ lw_all := lw_g (lw_at lw_m1 3 rfl) rfl
theorem q59 : (Jvm.Cond.static ({ cls := "NetSearch$Way", name := "values", desc := "()[LNetSearch$Way;" } : Jvm.MethodName)) ∈ lw_all := lw_g (lw_at lw_m1 21 rfl) rfl
theorem q60 : (Jvm.Cond.code ({ cls := "NetSearch$Way", name := "values", desc := "()[LNetSearch$Way;" } : Jvm.MethodName) prog_4_method_1_code (0 : Nat) (Option.some (Jvm.ClassFile.FieldType.array (Jvm.ClassFile.FieldType.object "NetSearch$Way")))) ∈ lw_all := lw_g (lw_at lw_m1 22 rfl) rfl
theorem q61 : (Jvm.Cond.fieldLink "NetSearch$Way" (22 : Nat) "NetSearch$Way" "$VALUES" "[LNetSearch$Way;") ∈ lw_all := lw_g (lw_at lw_m1 23 rfl) rfl
theorem q62 : (Jvm.Cond.laysStatic "NetSearch$Way" "$VALUES" "[LNetSearch$Way;") ∈ lw_tbl := lw_at lw_m1 24 rfl
theorem q63 : (Jvm.Cond.methodLink "NetSearch$Way" (26 : Nat) ({ cls := "[LNetSearch$Way;", name := "clone", desc := "()Ljava/lang/Object;" } : Jvm.MethodName)) ∈ lw_all := lw_g (lw_at lw_m1 25 rfl) rfl
theorem q70 : (Jvm.Cond.classLink "NetSearch$Way" (27 : Nat) "[LNetSearch$Way;") ∈ lw_all := lw_g (lw_at lw_m1 32 rfl) rfl
theorem q834 : (Jvm.Cond.laysStatic "NetSearch$Way" "EAST" "LNetSearch$Way;") ∈ lw_tbl := lw_at lw_m4 76 rfl
theorem q835 : (Jvm.Cond.laysStatic "NetSearch$Way" "WEST" "LNetSearch$Way;") ∈ lw_tbl := lw_at lw_m4 77 rfl
theorem q836 : (Jvm.Cond.laysStatic "NetSearch$Way" "NORTH" "LNetSearch$Way;") ∈ lw_tbl := lw_at lw_m4 78 rfl
theorem q837 : (Jvm.Cond.laysStatic "NetSearch$Way" "SOUTH" "LNetSearch$Way;") ∈ lw_tbl := lw_at lw_m4 79 rfl
theorem q838 : (Jvm.Cond.laysStatic "NetSearch$Way" "TOP" "LNetSearch$Way;") ∈ lw_tbl := lw_at lw_m4 80 rfl
theorem q839 : (Jvm.Cond.laysStatic "NetSearch$Way" "GROUND" "LNetSearch$Way;") ∈ lw_tbl := lw_at lw_m4 81 rfl

/-! NetSearch$Sheet -/
def RX2 : String := "NetSearch$Sheet"
def TX2 : u_T := fun k => match k with
  | 0 => ("NetSearch$Sheet", "face", "[LNetSearch$Face;", true)
  | 1 => ("NetSearch$Sheet", "firstRight", "[I", true)
  | 2 => ("NetSearch$Sheet", "firstUp", "[I", true)
  | 3 => ("NetSearch$Sheet", "many", "I", false)
  | 4 => ("NetSearch$Sheet", "order", "[I", true)
  | 5 => ("NetSearch$Sheet", "lies", "[Z", true)
  | 6 => ("NetSearch$Sheet", "x", "[I", true)
  | 7 => ("NetSearch$Sheet", "y", "[I", true)
  | 8 => ("NetSearch$Sheet", "right", "[I", true)
  | 9 => ("NetSearch$Sheet", "up", "[I", true)
  | _ => ("NetSearch$Sheet", "place", "[I", true)
def tyX2 : Nat → FieldType := fun k => match k with
  | 0 => .array (.object "NetSearch$Face")
  | 1 => .array .int
  | 2 => .array .int
  | 3 => .int
  | 4 => .array .int
  | 5 => .array .boolean
  | 6 => .array .int
  | 7 => .array .int
  | 8 => .array .int
  | 9 => .array .int
  | _ => .array .int
abbrev wsX20 : List Cond := u_ws RX2 TX2 11
theorem nmX2 : ∀ a, a < 11 → ∀ b, b < 11 → a ≠ b → (TX2 a).2.1 ≠ (TX2 b).2.1 := by decide +kernel
theorem tyX2_ok : ∀ k, k < 11 → parseFieldDescriptor (TX2 k).2.2.1 = some (tyX2 k) := by decide +kernel
abbrev cX2_init : ByteArray := prog_3_method_1_code
def yX2_init : MethodName := ⟨RX2, "<init>", "([LNetSearch$Face;[I[I)V"⟩
abbrev cX2_clear : ByteArray := prog_3_method_2_code
def yX2_clear : MethodName := ⟨RX2, "clear", "()V"⟩
abbrev cX2_drop : ByteArray := prog_3_method_6_code
def yX2_drop : MethodName := ⟨RX2, "drop", "()V"⟩
abbrev cX2_placeOf : ByteArray := prog_3_method_3_code
def yX2_placeOf : MethodName := ⟨RX2, "placeOf", "(II)I"⟩
abbrev cX2_first : ByteArray := prog_3_method_7_code
def yX2_first : MethodName := ⟨RX2, "first", "(I)V"⟩
abbrev cX2_put : ByteArray := prog_3_method_5_code
def yX2_put : MethodName := ⟨RX2, "put", "(IIIII)V"⟩
abbrev cX2_across : ByteArray := prog_3_method_11_code
def yX2_across : MethodName := ⟨RX2, "across", "(II)I"⟩
abbrev cX2_direction : ByteArray := prog_3_method_8_code
def yX2_direction : MethodName := ⟨RX2, "direction", "(II)I"⟩
abbrev cX2_nextX : ByteArray := prog_3_method_9_code
def yX2_nextX : MethodName := ⟨RX2, "nextX", "(II)I"⟩
abbrev cX2_nextY : ByteArray := prog_3_method_10_code
def yX2_nextY : MethodName := ⟨RX2, "nextY", "(II)I"⟩
abbrev cX2_at : ByteArray := prog_3_method_4_code
def yX2_at : MethodName := ⟨RX2, "at", "(II)I"⟩
abbrev cX2_join : ByteArray := prog_3_method_13_code
def yX2_join : MethodName := ⟨RX2, "join", "(II)V"⟩
abbrev cX2_turned : ByteArray := prog_3_method_12_code
def yX2_turned : MethodName := ⟨RX2, "turned", "(II)I"⟩
theorem q42 : (Jvm.Cond.initialized "NetSearch$Sheet") ∈ lw_all := lw_g (lw_at lw_m1 4 rfl) rfl
theorem q76 : (Jvm.Cond.instantiable "NetSearch$Sheet" (11 : Nat)) ∈ lw_all := lw_g (lw_at lw_m1 38 rfl) rfl
theorem q78 : (Jvm.Cond.instanceMethod ({ cls := "NetSearch$Sheet", name := "<init>", desc := "([LNetSearch$Face;[I[I)V" } : Jvm.MethodName)) ∈ lw_all := lw_g (lw_at lw_m1 40 rfl) rfl
theorem q79 : (Jvm.Cond.code ({ cls := "NetSearch$Sheet", name := "<init>", desc := "([LNetSearch$Face;[I[I)V" } : Jvm.MethodName) prog_3_method_1_code (4 : Nat) (Option.none : Option Jvm.ClassFile.FieldType)) ∈ lw_all := lw_g (lw_at lw_m1 41 rfl) rfl
theorem q80 : (Jvm.Cond.methodLink "NetSearch$Sheet" (3 : Nat) ({ cls := "java/lang/Object", name := "<init>", desc := "()V" } : Jvm.MethodName)) ∈ lw_all := lw_g (lw_at lw_m1 42 rfl) rfl
theorem q81 : (Jvm.Cond.fieldLink "NetSearch$Sheet" (34 : Nat) "NetSearch$Sheet" "face" "[LNetSearch$Face;") ∈ lw_all := lw_g (lw_at lw_m1 43 rfl) rfl
theorem q82 : (Jvm.Cond.fieldLink "NetSearch$Sheet" (38 : Nat) "NetSearch$Sheet" "firstRight" "[I") ∈ lw_all := lw_g (lw_at lw_m1 44 rfl) rfl
theorem q83 : (Jvm.Cond.fieldLink "NetSearch$Sheet" (41 : Nat) "NetSearch$Sheet" "firstUp" "[I") ∈ lw_all := lw_g (lw_at lw_m1 45 rfl) rfl
theorem q84 : (Jvm.Cond.fieldLink "NetSearch$Sheet" (44 : Nat) "NetSearch$Sheet" "many" "I") ∈ lw_all := lw_g (lw_at lw_m1 46 rfl) rfl
theorem q86 : (Jvm.Cond.fieldLink "NetSearch$Sheet" (9 : Nat) "NetSearch$Sheet" "order" "[I") ∈ lw_all := lw_g (lw_at lw_m1 48 rfl) rfl
theorem q88 : (Jvm.Cond.fieldLink "NetSearch$Sheet" (15 : Nat) "NetSearch$Sheet" "lies" "[Z") ∈ lw_all := lw_g (lw_at lw_m1 50 rfl) rfl
theorem q90 : (Jvm.Cond.fieldLink "NetSearch$Sheet" (19 : Nat) "NetSearch$Sheet" "x" "[I") ∈ lw_all := lw_g (lw_at lw_m1 52 rfl) rfl
theorem q92 : (Jvm.Cond.fieldLink "NetSearch$Sheet" (22 : Nat) "NetSearch$Sheet" "y" "[I") ∈ lw_all := lw_g (lw_at lw_m1 54 rfl) rfl
theorem q94 : (Jvm.Cond.fieldLink "NetSearch$Sheet" (25 : Nat) "NetSearch$Sheet" "right" "[I") ∈ lw_all := lw_g (lw_at lw_m1 56 rfl) rfl
theorem q96 : (Jvm.Cond.fieldLink "NetSearch$Sheet" (28 : Nat) "NetSearch$Sheet" "up" "[I") ∈ lw_all := lw_g (lw_at lw_m1 58 rfl) rfl
theorem q98 : (Jvm.Cond.fieldLink "NetSearch$Sheet" (31 : Nat) "NetSearch$Sheet" "place" "[I") ∈ lw_all := lw_g (lw_at lw_m1 60 rfl) rfl
theorem q99 : (Jvm.Cond.laysFinal "NetSearch$Sheet" "NetSearch$Sheet" "face" "[LNetSearch$Face;") ∈ lw_all := lw_g (lw_at lw_m1 61 rfl) rfl
theorem q100 : (Jvm.Cond.soleField "NetSearch$Sheet" "face") ∈ lw_all := lw_g (lw_at lw_m1 62 rfl) rfl
theorem q101 : (Jvm.Cond.laysFinal "NetSearch$Sheet" "NetSearch$Sheet" "firstRight" "[I") ∈ lw_all := lw_g (lw_at lw_m1 63 rfl) rfl
theorem q102 : (Jvm.Cond.soleField "NetSearch$Sheet" "firstRight") ∈ lw_all := lw_g (lw_at lw_m1 64 rfl) rfl
theorem q103 : (Jvm.Cond.laysFinal "NetSearch$Sheet" "NetSearch$Sheet" "firstUp" "[I") ∈ lw_all := lw_g (lw_at lw_m1 65 rfl) rfl
theorem q104 : (Jvm.Cond.soleField "NetSearch$Sheet" "firstUp") ∈ lw_all := lw_g (lw_at lw_m1 66 rfl) rfl
theorem q105 : (Jvm.Cond.lays "NetSearch$Sheet" "NetSearch$Sheet" "many" "I") ∈ lw_all := lw_g (lw_at lw_m1 67 rfl) rfl
theorem q106 : (Jvm.Cond.soleField "NetSearch$Sheet" "many") ∈ lw_all := lw_g (lw_at lw_m1 68 rfl) rfl
theorem q107 : (Jvm.Cond.laysFinal "NetSearch$Sheet" "NetSearch$Sheet" "order" "[I") ∈ lw_all := lw_g (lw_at lw_m1 69 rfl) rfl
theorem q108 : (Jvm.Cond.soleField "NetSearch$Sheet" "order") ∈ lw_all := lw_g (lw_at lw_m1 70 rfl) rfl
theorem q109 : (Jvm.Cond.laysFinal "NetSearch$Sheet" "NetSearch$Sheet" "lies" "[Z") ∈ lw_all := lw_g (lw_at lw_m1 71 rfl) rfl
theorem q110 : (Jvm.Cond.soleField "NetSearch$Sheet" "lies") ∈ lw_all := lw_g (lw_at lw_m1 72 rfl) rfl
theorem q111 : (Jvm.Cond.laysFinal "NetSearch$Sheet" "NetSearch$Sheet" "x" "[I") ∈ lw_all := lw_g (lw_at lw_m1 73 rfl) rfl
theorem q112 : (Jvm.Cond.soleField "NetSearch$Sheet" "x") ∈ lw_all := lw_g (lw_at lw_m1 74 rfl) rfl
theorem q113 : (Jvm.Cond.laysFinal "NetSearch$Sheet" "NetSearch$Sheet" "y" "[I") ∈ lw_all := lw_g (lw_at lw_m1 75 rfl) rfl
theorem q114 : (Jvm.Cond.soleField "NetSearch$Sheet" "y") ∈ lw_all := lw_g (lw_at lw_m1 76 rfl) rfl
theorem q115 : (Jvm.Cond.laysFinal "NetSearch$Sheet" "NetSearch$Sheet" "right" "[I") ∈ lw_all := lw_g (lw_at lw_m1 77 rfl) rfl
theorem q116 : (Jvm.Cond.soleField "NetSearch$Sheet" "right") ∈ lw_all := lw_g (lw_at lw_m1 78 rfl) rfl
theorem q117 : (Jvm.Cond.laysFinal "NetSearch$Sheet" "NetSearch$Sheet" "up" "[I") ∈ lw_all := lw_g (lw_at lw_m1 79 rfl) rfl
theorem q118 : (Jvm.Cond.soleField "NetSearch$Sheet" "up") ∈ lw_all := lw_g (lw_at lw_m1 80 rfl) rfl
theorem q119 : (Jvm.Cond.laysFinal "NetSearch$Sheet" "NetSearch$Sheet" "place" "[I") ∈ lw_all := lw_g (lw_at lw_m1 81 rfl) rfl
theorem q120 : (Jvm.Cond.soleField "NetSearch$Sheet" "place") ∈ lw_all := lw_g (lw_at lw_m1 82 rfl) rfl
theorem q121 : (Jvm.Cond.superclass "NetSearch$Sheet" "java/lang/Object") ∈ lw_all := lw_g (lw_at lw_m1 83 rfl) rfl
theorem q134 : (Jvm.Cond.fieldLinkNest "NetSearch$Sheet" (55 : Nat) "NetSearch$Face" "way" "I" "NetSearch") ∈ lw_tbl := lw_at lw_m1 96 rfl
theorem q137 : (Jvm.Cond.fieldLinkNest "NetSearch$Sheet" (64 : Nat) "NetSearch$Face" "across" "[I" "NetSearch") ∈ lw_tbl := lw_at lw_m1 99 rfl
theorem q140 : (Jvm.Cond.fieldLinkNest "NetSearch$Sheet" (70 : Nat) "NetSearch$Face" "turned" "[I" "NetSearch") ∈ lw_tbl := lw_at lw_m1 102 rfl
theorem q171 : (Jvm.Cond.instanceMethod ({ cls := "NetSearch$Sheet", name := "clear", desc := "()V" } : Jvm.MethodName)) ∈ lw_all := lw_g (lw_at lw_m1 133 rfl) rfl
theorem q172 : (Jvm.Cond.selects "NetSearch$Sheet" ({ cls := "NetSearch$Sheet", name := "clear", desc := "()V" } : Jvm.MethodName) ({ cls := "NetSearch$Sheet", name := "clear", desc := "()V" } : Jvm.MethodName)) ∈ lw_all := lw_g (lw_at lw_m1 134 rfl) rfl
theorem q173 : (Jvm.Cond.code ({ cls := "NetSearch$Sheet", name := "clear", desc := "()V" } : Jvm.MethodName) prog_3_method_2_code (1 : Nat) (Option.none : Option Jvm.ClassFile.FieldType)) ∈ lw_all := lw_g (lw_at lw_m1 135 rfl) rfl
theorem q174 : (Jvm.Cond.methodLink "NetSearch$Sheet" (48 : Nat) ({ cls := "NetSearch$Sheet", name := "drop", desc := "()V" } : Jvm.MethodName)) ∈ lw_all := lw_g (lw_at lw_m1 136 rfl) rfl
theorem q175 : (Jvm.Cond.instanceMethod ({ cls := "NetSearch$Sheet", name := "drop", desc := "()V" } : Jvm.MethodName)) ∈ lw_all := lw_g (lw_at lw_m1 137 rfl) rfl
theorem q176 : (Jvm.Cond.selects "NetSearch$Sheet" ({ cls := "NetSearch$Sheet", name := "drop", desc := "()V" } : Jvm.MethodName) ({ cls := "NetSearch$Sheet", name := "drop", desc := "()V" } : Jvm.MethodName)) ∈ lw_all := lw_g (lw_at lw_m1 138 rfl) rfl
theorem q177 : (Jvm.Cond.code ({ cls := "NetSearch$Sheet", name := "drop", desc := "()V" } : Jvm.MethodName) prog_3_method_6_code (2 : Nat) (Option.none : Option Jvm.ClassFile.FieldType)) ∈ lw_all := lw_g (lw_at lw_m1 139 rfl) rfl
theorem q178 : (Jvm.Cond.methodLink "NetSearch$Sheet" (51 : Nat) ({ cls := "NetSearch$Sheet", name := "placeOf", desc := "(II)I" } : Jvm.MethodName)) ∈ lw_all := lw_g (lw_at lw_m1 140 rfl) rfl
theorem q179 : (Jvm.Cond.privateMethod ({ cls := "NetSearch$Sheet", name := "placeOf", desc := "(II)I" } : Jvm.MethodName)) ∈ lw_tbl := lw_at lw_m1 141 rfl
theorem q180 : (Jvm.Cond.instanceMethod ({ cls := "NetSearch$Sheet", name := "placeOf", desc := "(II)I" } : Jvm.MethodName)) ∈ lw_all := lw_g (lw_at lw_m1 142 rfl) rfl
theorem q181 : (Jvm.Cond.code ({ cls := "NetSearch$Sheet", name := "placeOf", desc := "(II)I" } : Jvm.MethodName) prog_3_method_3_code (3 : Nat) (Option.some Jvm.ClassFile.FieldType.int)) ∈ lw_all := lw_g (lw_at lw_m1 143 rfl) rfl
theorem q183 : (Jvm.Cond.instanceMethod ({ cls := "NetSearch$Sheet", name := "first", desc := "(I)V" } : Jvm.MethodName)) ∈ lw_all := lw_g (lw_at lw_m1 145 rfl) rfl
theorem q184 : (Jvm.Cond.selects "NetSearch$Sheet" ({ cls := "NetSearch$Sheet", name := "first", desc := "(I)V" } : Jvm.MethodName) ({ cls := "NetSearch$Sheet", name := "first", desc := "(I)V" } : Jvm.MethodName)) ∈ lw_all := lw_g (lw_at lw_m1 146 rfl) rfl
theorem q185 : (Jvm.Cond.code ({ cls := "NetSearch$Sheet", name := "first", desc := "(I)V" } : Jvm.MethodName) prog_3_method_7_code (2 : Nat) (Option.none : Option Jvm.ClassFile.FieldType)) ∈ lw_all := lw_g (lw_at lw_m1 147 rfl) rfl
theorem q186 : (Jvm.Cond.methodLink "NetSearch$Sheet" (60 : Nat) ({ cls := "NetSearch$Sheet", name := "put", desc := "(IIIII)V" } : Jvm.MethodName)) ∈ lw_all := lw_g (lw_at lw_m1 148 rfl) rfl
theorem q187 : (Jvm.Cond.instanceMethod ({ cls := "NetSearch$Sheet", name := "put", desc := "(IIIII)V" } : Jvm.MethodName)) ∈ lw_all := lw_g (lw_at lw_m1 149 rfl) rfl
theorem q188 : (Jvm.Cond.selects "NetSearch$Sheet" ({ cls := "NetSearch$Sheet", name := "put", desc := "(IIIII)V" } : Jvm.MethodName) ({ cls := "NetSearch$Sheet", name := "put", desc := "(IIIII)V" } : Jvm.MethodName)) ∈ lw_all := lw_g (lw_at lw_m1 150 rfl) rfl
theorem q189 : (Jvm.Cond.code ({ cls := "NetSearch$Sheet", name := "put", desc := "(IIIII)V" } : Jvm.MethodName) prog_3_method_5_code (6 : Nat) (Option.none : Option Jvm.ClassFile.FieldType)) ∈ lw_all := lw_g (lw_at lw_m1 151 rfl) rfl
theorem q341 : (Jvm.Cond.instanceMethod ({ cls := "NetSearch$Sheet", name := "across", desc := "(II)I" } : Jvm.MethodName)) ∈ lw_all := lw_g (lw_at lw_m2 63 rfl) rfl
theorem q342 : (Jvm.Cond.selects "NetSearch$Sheet" ({ cls := "NetSearch$Sheet", name := "across", desc := "(II)I" } : Jvm.MethodName) ({ cls := "NetSearch$Sheet", name := "across", desc := "(II)I" } : Jvm.MethodName)) ∈ lw_all := lw_g (lw_at lw_m2 64 rfl) rfl
theorem q343 : (Jvm.Cond.code ({ cls := "NetSearch$Sheet", name := "across", desc := "(II)I" } : Jvm.MethodName) prog_3_method_11_code (3 : Nat) (Option.some Jvm.ClassFile.FieldType.int)) ∈ lw_all := lw_g (lw_at lw_m2 65 rfl) rfl
theorem q344 : (Jvm.Cond.methodLink "NetSearch$Sheet" (67 : Nat) ({ cls := "NetSearch$Sheet", name := "direction", desc := "(II)I" } : Jvm.MethodName)) ∈ lw_all := lw_g (lw_at lw_m2 66 rfl) rfl
theorem q345 : (Jvm.Cond.instanceMethod ({ cls := "NetSearch$Sheet", name := "direction", desc := "(II)I" } : Jvm.MethodName)) ∈ lw_all := lw_g (lw_at lw_m2 67 rfl) rfl
theorem q346 : (Jvm.Cond.selects "NetSearch$Sheet" ({ cls := "NetSearch$Sheet", name := "direction", desc := "(II)I" } : Jvm.MethodName) ({ cls := "NetSearch$Sheet", name := "direction", desc := "(II)I" } : Jvm.MethodName)) ∈ lw_all := lw_g (lw_at lw_m2 68 rfl) rfl
theorem q347 : (Jvm.Cond.code ({ cls := "NetSearch$Sheet", name := "direction", desc := "(II)I" } : Jvm.MethodName) prog_3_method_8_code (3 : Nat) (Option.some Jvm.ClassFile.FieldType.int)) ∈ lw_all := lw_g (lw_at lw_m2 69 rfl) rfl
theorem q349 : (Jvm.Cond.instanceMethod ({ cls := "NetSearch$Sheet", name := "nextX", desc := "(II)I" } : Jvm.MethodName)) ∈ lw_all := lw_g (lw_at lw_m2 71 rfl) rfl
theorem q350 : (Jvm.Cond.selects "NetSearch$Sheet" ({ cls := "NetSearch$Sheet", name := "nextX", desc := "(II)I" } : Jvm.MethodName) ({ cls := "NetSearch$Sheet", name := "nextX", desc := "(II)I" } : Jvm.MethodName)) ∈ lw_all := lw_g (lw_at lw_m2 72 rfl) rfl
theorem q351 : (Jvm.Cond.code ({ cls := "NetSearch$Sheet", name := "nextX", desc := "(II)I" } : Jvm.MethodName) prog_3_method_9_code (3 : Nat) (Option.some Jvm.ClassFile.FieldType.int)) ∈ lw_all := lw_g (lw_at lw_m2 73 rfl) rfl
theorem q353 : (Jvm.Cond.instanceMethod ({ cls := "NetSearch$Sheet", name := "nextY", desc := "(II)I" } : Jvm.MethodName)) ∈ lw_all := lw_g (lw_at lw_m2 75 rfl) rfl
theorem q354 : (Jvm.Cond.selects "NetSearch$Sheet" ({ cls := "NetSearch$Sheet", name := "nextY", desc := "(II)I" } : Jvm.MethodName) ({ cls := "NetSearch$Sheet", name := "nextY", desc := "(II)I" } : Jvm.MethodName)) ∈ lw_all := lw_g (lw_at lw_m2 76 rfl) rfl
theorem q355 : (Jvm.Cond.code ({ cls := "NetSearch$Sheet", name := "nextY", desc := "(II)I" } : Jvm.MethodName) prog_3_method_10_code (3 : Nat) (Option.some Jvm.ClassFile.FieldType.int)) ∈ lw_all := lw_g (lw_at lw_m2 77 rfl) rfl
theorem q357 : (Jvm.Cond.instanceMethod ({ cls := "NetSearch$Sheet", name := "at", desc := "(II)I" } : Jvm.MethodName)) ∈ lw_all := lw_g (lw_at lw_m2 79 rfl) rfl
theorem q358 : (Jvm.Cond.selects "NetSearch$Sheet" ({ cls := "NetSearch$Sheet", name := "at", desc := "(II)I" } : Jvm.MethodName) ({ cls := "NetSearch$Sheet", name := "at", desc := "(II)I" } : Jvm.MethodName)) ∈ lw_all := lw_g (lw_at lw_m2 80 rfl) rfl
theorem q359 : (Jvm.Cond.code ({ cls := "NetSearch$Sheet", name := "at", desc := "(II)I" } : Jvm.MethodName) prog_3_method_4_code (3 : Nat) (Option.some Jvm.ClassFile.FieldType.int)) ∈ lw_all := lw_g (lw_at lw_m2 81 rfl) rfl
theorem q361 : (Jvm.Cond.instanceMethod ({ cls := "NetSearch$Sheet", name := "join", desc := "(II)V" } : Jvm.MethodName)) ∈ lw_all := lw_g (lw_at lw_m2 83 rfl) rfl
theorem q362 : (Jvm.Cond.selects "NetSearch$Sheet" ({ cls := "NetSearch$Sheet", name := "join", desc := "(II)V" } : Jvm.MethodName) ({ cls := "NetSearch$Sheet", name := "join", desc := "(II)V" } : Jvm.MethodName)) ∈ lw_all := lw_g (lw_at lw_m2 84 rfl) rfl
theorem q363 : (Jvm.Cond.code ({ cls := "NetSearch$Sheet", name := "join", desc := "(II)V" } : Jvm.MethodName) prog_3_method_13_code (5 : Nat) (Option.none : Option Jvm.ClassFile.FieldType)) ∈ lw_all := lw_g (lw_at lw_m2 85 rfl) rfl
theorem q364 : (Jvm.Cond.methodLink "NetSearch$Sheet" (73 : Nat) ({ cls := "NetSearch$Sheet", name := "turned", desc := "(II)I" } : Jvm.MethodName)) ∈ lw_all := lw_g (lw_at lw_m2 86 rfl) rfl
theorem q365 : (Jvm.Cond.instanceMethod ({ cls := "NetSearch$Sheet", name := "turned", desc := "(II)I" } : Jvm.MethodName)) ∈ lw_all := lw_g (lw_at lw_m2 87 rfl) rfl
theorem q366 : (Jvm.Cond.selects "NetSearch$Sheet" ({ cls := "NetSearch$Sheet", name := "turned", desc := "(II)I" } : Jvm.MethodName) ({ cls := "NetSearch$Sheet", name := "turned", desc := "(II)I" } : Jvm.MethodName)) ∈ lw_all := lw_g (lw_at lw_m2 88 rfl) rfl
theorem q367 : (Jvm.Cond.code ({ cls := "NetSearch$Sheet", name := "turned", desc := "(II)I" } : Jvm.MethodName) prog_3_method_12_code (3 : Nat) (Option.some Jvm.ClassFile.FieldType.int)) ∈ lw_all := lw_g (lw_at lw_m2 89 rfl) rfl
theorem q368 : (Jvm.Cond.methodLink "NetSearch$Sheet" (75 : Nat) ({ cls := "NetSearch$Sheet", name := "across", desc := "(II)I" } : Jvm.MethodName)) ∈ lw_all := lw_g (lw_at lw_m2 90 rfl) rfl
theorem q369 : (Jvm.Cond.methodLink "NetSearch$Sheet" (77 : Nat) ({ cls := "NetSearch$Sheet", name := "nextX", desc := "(II)I" } : Jvm.MethodName)) ∈ lw_all := lw_g (lw_at lw_m2 91 rfl) rfl
theorem q370 : (Jvm.Cond.methodLink "NetSearch$Sheet" (80 : Nat) ({ cls := "NetSearch$Sheet", name := "nextY", desc := "(II)I" } : Jvm.MethodName)) ∈ lw_all := lw_g (lw_at lw_m2 92 rfl) rfl
theorem in_X2 : ∀ w ∈ wsX20, w ∈ lw_all := lw_in wsX20 [99, 101, 103, 105, 107, 109, 111, 113, 115, 117, 119] (by decide +kernel) (by decide +kernel)

/-! NetSearch$Face -/
def RX3 : String := "NetSearch$Face"
def TX3 : u_T := fun k => match k with
  | 0 => ("NetSearch$Face", "cube", "I", false)
  | 1 => ("NetSearch$Face", "way", "I", false)
  | 2 => ("NetSearch$Face", "across", "[I", true)
  | _ => ("NetSearch$Face", "turned", "[I", true)
def tyX3 : Nat → FieldType := fun k => match k with
  | 0 => .int
  | 1 => .int
  | 2 => .array .int
  | _ => .array .int
abbrev wsX30 : List Cond := u_ws RX3 TX3 4
theorem nmX3 : ∀ a, a < 4 → ∀ b, b < 4 → a ≠ b → (TX3 a).2.1 ≠ (TX3 b).2.1 := by decide +kernel
theorem tyX3_ok : ∀ k, k < 4 → parseFieldDescriptor (TX3 k).2.2.1 = some (tyX3 k) := by decide +kernel
abbrev cX3_init : ByteArray := prog_2_method_1_code
def yX3_init : MethodName := ⟨RX3, "<init>", "()V"⟩
theorem q43 : (Jvm.Cond.initialized "NetSearch$Face") ∈ lw_all := lw_g (lw_at lw_m1 5 rfl) rfl
theorem q127 : (Jvm.Cond.instantiable "NetSearch$Face" (4 : Nat)) ∈ lw_all := lw_g (lw_at lw_m1 89 rfl) rfl
theorem q129 : (Jvm.Cond.instanceMethod ({ cls := "NetSearch$Face", name := "<init>", desc := "()V" } : Jvm.MethodName)) ∈ lw_all := lw_g (lw_at lw_m1 91 rfl) rfl
theorem q130 : (Jvm.Cond.code ({ cls := "NetSearch$Face", name := "<init>", desc := "()V" } : Jvm.MethodName) prog_2_method_1_code (1 : Nat) (Option.none : Option Jvm.ClassFile.FieldType)) ∈ lw_all := lw_g (lw_at lw_m1 92 rfl) rfl
theorem q131 : (Jvm.Cond.methodLink "NetSearch$Face" (1 : Nat) ({ cls := "java/lang/Object", name := "<init>", desc := "()V" } : Jvm.MethodName)) ∈ lw_all := lw_g (lw_at lw_m1 93 rfl) rfl
theorem q135 : (Jvm.Cond.fieldLink "NetSearch$Face" (7 : Nat) "NetSearch$Face" "across" "[I") ∈ lw_all := lw_g (lw_at lw_m1 97 rfl) rfl
theorem q138 : (Jvm.Cond.fieldLink "NetSearch$Face" (13 : Nat) "NetSearch$Face" "turned" "[I") ∈ lw_all := lw_g (lw_at lw_m1 100 rfl) rfl
theorem q141 : (Jvm.Cond.lays "NetSearch$Face" "NetSearch$Face" "cube" "I") ∈ lw_all := lw_g (lw_at lw_m1 103 rfl) rfl
theorem q142 : (Jvm.Cond.soleField "NetSearch$Face" "cube") ∈ lw_all := lw_g (lw_at lw_m1 104 rfl) rfl
theorem q143 : (Jvm.Cond.lays "NetSearch$Face" "NetSearch$Face" "way" "I") ∈ lw_all := lw_g (lw_at lw_m1 105 rfl) rfl
theorem q144 : (Jvm.Cond.soleField "NetSearch$Face" "way") ∈ lw_all := lw_g (lw_at lw_m1 106 rfl) rfl
theorem q145 : (Jvm.Cond.laysFinal "NetSearch$Face" "NetSearch$Face" "across" "[I") ∈ lw_all := lw_g (lw_at lw_m1 107 rfl) rfl
theorem q146 : (Jvm.Cond.soleField "NetSearch$Face" "across") ∈ lw_all := lw_g (lw_at lw_m1 108 rfl) rfl
theorem q147 : (Jvm.Cond.laysFinal "NetSearch$Face" "NetSearch$Face" "turned" "[I") ∈ lw_all := lw_g (lw_at lw_m1 109 rfl) rfl
theorem q148 : (Jvm.Cond.soleField "NetSearch$Face" "turned") ∈ lw_all := lw_g (lw_at lw_m1 110 rfl) rfl
theorem q149 : (Jvm.Cond.superclass "NetSearch$Face" "java/lang/Object") ∈ lw_all := lw_g (lw_at lw_m1 111 rfl) rfl
theorem in_X3 : ∀ w ∈ wsX30, w ∈ lw_all := lw_in wsX30 [141, 143, 145, 147] (by decide +kernel) (by decide +kernel)

/-! NetSearchModel -/
def RX4 : String := "NetSearchModel"
def TX4 : u_T := fun k => match k with
  | 0 => ("NetSearchModel", "cubes", "I", false)
  | 1 => ("NetSearchModel", "cubeX", "[I", true)
  | 2 => ("NetSearchModel", "cubeY", "[I", true)
  | 3 => ("NetSearchModel", "cubeZ", "[I", true)
  | 4 => ("NetSearchModel", "faces", "I", false)
  | 5 => ("NetSearchModel", "cubeOf", "[I", true)
  | 6 => ("NetSearchModel", "looks", "[I", true)
  | 7 => ("NetSearchModel", "laid", "I", false)
  | 8 => ("NetSearchModel", "lies", "[Z", true)
  | 9 => ("NetSearchModel", "handX", "[I", true)
  | 10 => ("NetSearchModel", "handY", "[I", true)
  | 11 => ("NetSearchModel", "handRight", "[I", true)
  | 12 => ("NetSearchModel", "handUp", "[I", true)
  | 13 => ("NetSearchModel", "count", "I", false)
  | 14 => ("NetSearchModel", "order", "[I", true)
  | 15 => ("NetSearchModel", "choice", "[I", true)
  | 16 => ("NetSearchModel", "has", "[Z", true)
  | 17 => ("NetSearchModel", "atX", "[I", true)
  | 18 => ("NetSearchModel", "atY", "[I", true)
  | 19 => ("NetSearchModel", "right", "[I", true)
  | 20 => ("NetSearchModel", "up", "[I", true)
  | 21 => ("NetSearchModel", "step", "I", false)
  | 22 => ("NetSearchModel", "ended", "Z", false)
  | 23 => ("NetSearchModel", "nets", "I", false)
  | 24 => ("NetSearchModel", "work", "I", false)
  | 25 => ("NetSearchModel", "bestWidth", "I", false)
  | 26 => ("NetSearchModel", "bestHeight", "I", false)
  | 27 => ("NetSearchModel", "bestNet", "I", false)
  | 28 => ("NetSearchModel", "bestX", "[I", true)
  | 29 => ("NetSearchModel", "bestY", "[I", true)
  | 30 => ("NetSearchModel", "shapes", "I", false)
  | 31 => ("NetSearchModel", "shapeSize", "[I", true)
  | 32 => ("NetSearchModel", "shapeRow", "[I", true)
  | 33 => ("NetSearchModel", "nextFace", "[I", true)
  | 34 => ("NetSearchModel", "leads", "[I", true)
  | 35 => ("NetSearchModel", "grid", "[J", true)
  | 36 => ("NetSearchModel", "imageX", "[I", true)
  | 37 => ("NetSearchModel", "imageY", "[I", true)
  | 38 => ("NetSearchModel", "row", "[I", true)
  | 39 => ("NetSearchModel", "bestRow", "[I", true)
  | 40 => ("NetSearchModel", "on", "[I", true)
  | 41 => ("NetSearchModel", "onRight", "[I", true)
  | 42 => ("NetSearchModel", "onUp", "[I", true)
  | _ => ("NetSearchModel", "queue", "[I", true)
def tyX4 : Nat → FieldType := fun k => match k with
  | 0 => .int
  | 1 => .array .int
  | 2 => .array .int
  | 3 => .array .int
  | 4 => .int
  | 5 => .array .int
  | 6 => .array .int
  | 7 => .int
  | 8 => .array .boolean
  | 9 => .array .int
  | 10 => .array .int
  | 11 => .array .int
  | 12 => .array .int
  | 13 => .int
  | 14 => .array .int
  | 15 => .array .int
  | 16 => .array .boolean
  | 17 => .array .int
  | 18 => .array .int
  | 19 => .array .int
  | 20 => .array .int
  | 21 => .int
  | 22 => .boolean
  | 23 => .int
  | 24 => .int
  | 25 => .int
  | 26 => .int
  | 27 => .int
  | 28 => .array .int
  | 29 => .array .int
  | 30 => .int
  | 31 => .array .int
  | 32 => .array .int
  | 33 => .array .int
  | 34 => .array .int
  | 35 => .array .long
  | 36 => .array .int
  | 37 => .array .int
  | 38 => .array .int
  | 39 => .array .int
  | 40 => .array .int
  | 41 => .array .int
  | 42 => .array .int
  | _ => .array .int
abbrev wsX40 : List Cond := u_ws RX4 TX4 44
set_option maxRecDepth 100000 in
theorem nmX4 : ∀ a, a < 44 → ∀ b, b < 44 → a ≠ b → (TX4 a).2.1 ≠ (TX4 b).2.1 := by decide +kernel
set_option maxRecDepth 100000 in
theorem tyX4_ok : ∀ k, k < 44 → parseFieldDescriptor (TX4 k).2.2.1 = some (tyX4 k) := by decide +kernel
abbrev cX4_init : ByteArray := prog_6_method_1_code
def yX4_init : MethodName := ⟨RX4, "<init>", "()V"⟩
abbrev cX4_anew : ByteArray := prog_6_method_2_code
def yX4_anew : MethodName := ⟨RX4, "anew", "()V"⟩
abbrev cX4_cubeBeside : ByteArray := prog_6_method_7_code
def yX4_cubeBeside : MethodName := ⟨RX4, "cubeBeside", "(II)I"⟩
abbrev cX4_stepX : ByteArray := prog_6_method_3_code
def yX4_stepX : MethodName := ⟨RX4, "stepX", "(I)I"⟩
abbrev cX4_stepY : ByteArray := prog_6_method_4_code
def yX4_stepY : MethodName := ⟨RX4, "stepY", "(I)I"⟩
abbrev cX4_stepZ : ByteArray := prog_6_method_5_code
def yX4_stepZ : MethodName := ⟨RX4, "stepZ", "(I)I"⟩
abbrev cX4_cubeAt : ByteArray := prog_6_method_6_code
def yX4_cubeAt : MethodName := ⟨RX4, "cubeAt", "(III)I"⟩
abbrev cX4_found : ByteArray := prog_6_method_14_code
def yX4_found : MethodName := ⟨RX4, "found", "(II)I"⟩
abbrev cX4_edge : ByteArray := prog_6_method_11_code
def yX4_edge : MethodName := ⟨RX4, "edge", "(II)I"⟩
abbrev cX4_faceOf : ByteArray := prog_6_method_10_code
def yX4_faceOf : MethodName := ⟨RX4, "faceOf", "(II)I"⟩
abbrev cX4_led : ByteArray := prog_6_method_15_code
def yX4_led : MethodName := ⟨RX4, "led", "(II)I"⟩
abbrev cX4_firstRight : ByteArray := prog_6_method_8_code
def yX4_firstRight : MethodName := ⟨RX4, "firstRight", "(I)I"⟩
abbrev cX4_firstUp : ByteArray := prog_6_method_9_code
def yX4_firstUp : MethodName := ⟨RX4, "firstUp", "(I)I"⟩
abbrev cX4_cube : ByteArray := prog_6_method_21_code
def yX4_cube : MethodName := ⟨RX4, "cube", "(III)I"⟩
abbrev cX4_clear : ByteArray := prog_6_method_22_code
def yX4_clear : MethodName := ⟨RX4, "clear", "()I"⟩
abbrev cX4_forget : ByteArray := prog_6_method_23_code
def yX4_forget : MethodName := ⟨RX4, "forget", "()I"⟩
abbrev cX4_face : ByteArray := prog_6_method_25_code
def yX4_face : MethodName := ⟨RX4, "face", "(II)I"⟩
abbrev cX4_isFace : ByteArray := prog_6_method_24_code
def yX4_isFace : MethodName := ⟨RX4, "isFace", "(I)Z"⟩
abbrev cX4_across : ByteArray := prog_6_method_26_code
def yX4_across : MethodName := ⟨RX4, "across", "(II)I"⟩
abbrev cX4_beside : ByteArray := prog_6_method_12_code
def yX4_beside : MethodName := ⟨RX4, "beside", "(II)I"⟩
abbrev cX4_trees : ByteArray := prog_6_method_29_code
def yX4_trees : MethodName := ⟨RX4, "trees", "()J"⟩
abbrev cX4_treesBy : ByteArray := prog_6_method_28_code
def yX4_treesBy : MethodName := ⟨RX4, "treesBy", "(J)J"⟩
abbrev cX4_power : ByteArray := prog_6_method_27_code
def yX4_power : MethodName := ⟨RX4, "power", "(JJJ)J"⟩
abbrev cX4_lay : ByteArray := prog_6_method_30_code
def yX4_lay : MethodName := ⟨RX4, "lay", "(I)I"⟩
abbrev cX4_grow : ByteArray := prog_6_method_31_code
def yX4_grow : MethodName := ⟨RX4, "grow", "(II)I"⟩
abbrev cX4_sideOf : ByteArray := prog_6_method_16_code
def yX4_sideOf : MethodName := ⟨RX4, "sideOf", "(III)I"⟩
abbrev cX4_sideX : ByteArray := prog_6_method_17_code
def yX4_sideX : MethodName := ⟨RX4, "sideX", "(I)I"⟩
abbrev cX4_sideY : ByteArray := prog_6_method_18_code
def yX4_sideY : MethodName := ⟨RX4, "sideY", "(I)I"⟩
abbrev cX4_nextRight : ByteArray := prog_6_method_19_code
def yX4_nextRight : MethodName := ⟨RX4, "nextRight", "(IIII)I"⟩
abbrev cX4_lead : ByteArray := prog_6_method_13_code
def yX4_lead : MethodName := ⟨RX4, "lead", "(II)I"⟩
abbrev cX4_nextUp : ByteArray := prog_6_method_20_code
def yX4_nextUp : MethodName := ⟨RX4, "nextUp", "(IIII)I"⟩
abbrev cX4_paper : ByteArray := prog_6_method_32_code
def yX4_paper : MethodName := ⟨RX4, "paper", "(II)I"⟩
abbrev cX4_run : ByteArray := prog_6_method_34_code
def yX4_run : MethodName := ⟨RX4, "run", "(I)I"⟩
abbrev cX4_net : ByteArray := prog_6_method_39_code
def yX4_net : MethodName := ⟨RX4, "net", "()V"⟩
abbrev cX4_most : ByteArray := prog_6_method_36_code
def yX4_most : MethodName := ⟨RX4, "most", "([I)I"⟩
abbrev cX4_least : ByteArray := prog_6_method_35_code
def yX4_least : MethodName := ⟨RX4, "least", "([I)I"⟩
abbrev cX4_imageOfX : ByteArray := prog_6_method_37_code
def yX4_imageOfX : MethodName := ⟨RX4, "imageOfX", "(III)I"⟩
abbrev cX4_imageOfY : ByteArray := prog_6_method_38_code
def yX4_imageOfY : MethodName := ⟨RX4, "imageOfY", "(III)I"⟩
abbrev cX4_keep : ByteArray := prog_6_method_40_code
def yX4_keep : MethodName := ⟨RX4, "keep", "()V"⟩
abbrev cX4_isEmpty : ByteArray := prog_6_method_33_code
def yX4_isEmpty : MethodName := ⟨RX4, "isEmpty", "(II)Z"⟩
abbrev cX4_told : ByteArray := prog_6_method_41_code
def yX4_told : MethodName := ⟨RX4, "told", "(I)I"⟩
abbrev cX4_best : ByteArray := prog_6_method_42_code
def yX4_best : MethodName := ⟨RX4, "best", "(II)I"⟩
abbrev cX4_shape : ByteArray := prog_6_method_44_code
def yX4_shape : MethodName := ⟨RX4, "shape", "(III)I"⟩
abbrev cX4_isShape : ByteArray := prog_6_method_43_code
def yX4_isShape : MethodName := ⟨RX4, "isShape", "(I)Z"⟩
abbrev cX4_size : ByteArray := prog_6_method_45_code
def yX4_size : MethodName := ⟨RX4, "size", "(I)I"⟩
abbrev cX4_wraps : ByteArray := prog_6_method_48_code
def yX4_wraps : MethodName := ⟨RX4, "wraps", "(I)I"⟩
abbrev cX4_isWrapped : ByteArray := prog_6_method_47_code
def yX4_isWrapped : MethodName := ⟨RX4, "isWrapped", "(III)Z"⟩
abbrev cX4_placeAt : ByteArray := prog_6_method_46_code
def yX4_placeAt : MethodName := ⟨RX4, "placeAt", "(III)I"⟩
theorem q44 : (Jvm.Cond.initialized "NetSearchModel") ∈ lw_all := lw_g (lw_at lw_m1 6 rfl) rfl
theorem q512 : (Jvm.Cond.instantiable "NetSearchModel" (44 : Nat)) ∈ lw_all := lw_g (lw_at lw_m2 234 rfl) rfl
theorem q514 : (Jvm.Cond.instanceMethod ({ cls := "NetSearchModel", name := "<init>", desc := "()V" } : Jvm.MethodName)) ∈ lw_all := lw_g (lw_at lw_m2 236 rfl) rfl
theorem q515 : (Jvm.Cond.code ({ cls := "NetSearchModel", name := "<init>", desc := "()V" } : Jvm.MethodName) prog_6_method_1_code (1 : Nat) (Option.none : Option Jvm.ClassFile.FieldType)) ∈ lw_all := lw_g (lw_at lw_m2 237 rfl) rfl
theorem q516 : (Jvm.Cond.methodLink "NetSearchModel" (1 : Nat) ({ cls := "java/lang/Object", name := "<init>", desc := "()V" } : Jvm.MethodName)) ∈ lw_all := lw_g (lw_at lw_m2 238 rfl) rfl
theorem q517 : (Jvm.Cond.methodLink "NetSearchModel" (108 : Nat) ({ cls := "NetSearchModel", name := "anew", desc := "()V" } : Jvm.MethodName)) ∈ lw_all := lw_g (lw_at lw_m2 239 rfl) rfl
theorem q518 : (Jvm.Cond.privateMethod ({ cls := "NetSearchModel", name := "anew", desc := "()V" } : Jvm.MethodName)) ∈ lw_tbl := lw_at lw_m3 0 rfl
theorem q519 : (Jvm.Cond.instanceMethod ({ cls := "NetSearchModel", name := "anew", desc := "()V" } : Jvm.MethodName)) ∈ lw_all := lw_g (lw_at lw_m3 1 rfl) rfl
theorem q520 : (Jvm.Cond.code ({ cls := "NetSearchModel", name := "anew", desc := "()V" } : Jvm.MethodName) prog_6_method_2_code (3 : Nat) (Option.none : Option Jvm.ClassFile.FieldType)) ∈ lw_all := lw_g (lw_at lw_m3 2 rfl) rfl
theorem q521 : (Jvm.Cond.methodLink "NetSearchModel" (121 : Nat) ({ cls := "NetSearchModel", name := "cubeBeside", desc := "(II)I" } : Jvm.MethodName)) ∈ lw_all := lw_g (lw_at lw_m3 3 rfl) rfl
theorem q522 : (Jvm.Cond.privateMethod ({ cls := "NetSearchModel", name := "cubeBeside", desc := "(II)I" } : Jvm.MethodName)) ∈ lw_tbl := lw_at lw_m3 4 rfl
theorem q523 : (Jvm.Cond.instanceMethod ({ cls := "NetSearchModel", name := "cubeBeside", desc := "(II)I" } : Jvm.MethodName)) ∈ lw_all := lw_g (lw_at lw_m3 5 rfl) rfl
theorem q524 : (Jvm.Cond.code ({ cls := "NetSearchModel", name := "cubeBeside", desc := "(II)I" } : Jvm.MethodName) prog_6_method_7_code (3 : Nat) (Option.some Jvm.ClassFile.FieldType.int)) ∈ lw_all := lw_g (lw_at lw_m3 6 rfl) rfl
theorem q525 : (Jvm.Cond.methodLink "NetSearchModel" (157 : Nat) ({ cls := "NetSearchModel", name := "stepX", desc := "(I)I" } : Jvm.MethodName)) ∈ lw_all := lw_g (lw_at lw_m3 7 rfl) rfl
theorem q526 : (Jvm.Cond.static ({ cls := "NetSearchModel", name := "stepX", desc := "(I)I" } : Jvm.MethodName)) ∈ lw_all := lw_g (lw_at lw_m3 8 rfl) rfl
theorem q527 : (Jvm.Cond.code ({ cls := "NetSearchModel", name := "stepX", desc := "(I)I" } : Jvm.MethodName) prog_6_method_3_code (1 : Nat) (Option.some Jvm.ClassFile.FieldType.int)) ∈ lw_all := lw_g (lw_at lw_m3 9 rfl) rfl
theorem q528 : (Jvm.Cond.methodLink "NetSearchModel" (160 : Nat) ({ cls := "NetSearchModel", name := "stepY", desc := "(I)I" } : Jvm.MethodName)) ∈ lw_all := lw_g (lw_at lw_m3 10 rfl) rfl
theorem q529 : (Jvm.Cond.static ({ cls := "NetSearchModel", name := "stepY", desc := "(I)I" } : Jvm.MethodName)) ∈ lw_all := lw_g (lw_at lw_m3 11 rfl) rfl
theorem q530 : (Jvm.Cond.code ({ cls := "NetSearchModel", name := "stepY", desc := "(I)I" } : Jvm.MethodName) prog_6_method_4_code (1 : Nat) (Option.some Jvm.ClassFile.FieldType.int)) ∈ lw_all := lw_g (lw_at lw_m3 12 rfl) rfl
theorem q531 : (Jvm.Cond.methodLink "NetSearchModel" (163 : Nat) ({ cls := "NetSearchModel", name := "stepZ", desc := "(I)I" } : Jvm.MethodName)) ∈ lw_all := lw_g (lw_at lw_m3 13 rfl) rfl
theorem q532 : (Jvm.Cond.static ({ cls := "NetSearchModel", name := "stepZ", desc := "(I)I" } : Jvm.MethodName)) ∈ lw_all := lw_g (lw_at lw_m3 14 rfl) rfl
theorem q533 : (Jvm.Cond.code ({ cls := "NetSearchModel", name := "stepZ", desc := "(I)I" } : Jvm.MethodName) prog_6_method_5_code (1 : Nat) (Option.some Jvm.ClassFile.FieldType.int)) ∈ lw_all := lw_g (lw_at lw_m3 15 rfl) rfl
theorem q534 : (Jvm.Cond.methodLink "NetSearchModel" (166 : Nat) ({ cls := "NetSearchModel", name := "cubeAt", desc := "(III)I" } : Jvm.MethodName)) ∈ lw_all := lw_g (lw_at lw_m3 16 rfl) rfl
theorem q535 : (Jvm.Cond.privateMethod ({ cls := "NetSearchModel", name := "cubeAt", desc := "(III)I" } : Jvm.MethodName)) ∈ lw_tbl := lw_at lw_m3 17 rfl
theorem q536 : (Jvm.Cond.instanceMethod ({ cls := "NetSearchModel", name := "cubeAt", desc := "(III)I" } : Jvm.MethodName)) ∈ lw_all := lw_g (lw_at lw_m3 18 rfl) rfl
theorem q537 : (Jvm.Cond.code ({ cls := "NetSearchModel", name := "cubeAt", desc := "(III)I" } : Jvm.MethodName) prog_6_method_6_code (5 : Nat) (Option.some Jvm.ClassFile.FieldType.int)) ∈ lw_all := lw_g (lw_at lw_m3 19 rfl) rfl
theorem q538 : (Jvm.Cond.methodLink "NetSearchModel" (125 : Nat) ({ cls := "NetSearchModel", name := "found", desc := "(II)I" } : Jvm.MethodName)) ∈ lw_all := lw_g (lw_at lw_m3 20 rfl) rfl
theorem q539 : (Jvm.Cond.privateMethod ({ cls := "NetSearchModel", name := "found", desc := "(II)I" } : Jvm.MethodName)) ∈ lw_tbl := lw_at lw_m3 21 rfl
theorem q540 : (Jvm.Cond.instanceMethod ({ cls := "NetSearchModel", name := "found", desc := "(II)I" } : Jvm.MethodName)) ∈ lw_all := lw_g (lw_at lw_m3 22 rfl) rfl
theorem q541 : (Jvm.Cond.code ({ cls := "NetSearchModel", name := "found", desc := "(II)I" } : Jvm.MethodName) prog_6_method_14_code (6 : Nat) (Option.some Jvm.ClassFile.FieldType.int)) ∈ lw_all := lw_g (lw_at lw_m3 23 rfl) rfl
theorem q542 : (Jvm.Cond.methodLink "NetSearchModel" (170 : Nat) ({ cls := "NetSearchModel", name := "edge", desc := "(II)I" } : Jvm.MethodName)) ∈ lw_all := lw_g (lw_at lw_m3 24 rfl) rfl
theorem q543 : (Jvm.Cond.privateMethod ({ cls := "NetSearchModel", name := "edge", desc := "(II)I" } : Jvm.MethodName)) ∈ lw_tbl := lw_at lw_m3 25 rfl
theorem q544 : (Jvm.Cond.instanceMethod ({ cls := "NetSearchModel", name := "edge", desc := "(II)I" } : Jvm.MethodName)) ∈ lw_all := lw_g (lw_at lw_m3 26 rfl) rfl
theorem q545 : (Jvm.Cond.code ({ cls := "NetSearchModel", name := "edge", desc := "(II)I" } : Jvm.MethodName) prog_6_method_11_code (5 : Nat) (Option.some Jvm.ClassFile.FieldType.int)) ∈ lw_all := lw_g (lw_at lw_m3 27 rfl) rfl
theorem q546 : (Jvm.Cond.methodLink "NetSearchModel" (173 : Nat) ({ cls := "NetSearchModel", name := "faceOf", desc := "(II)I" } : Jvm.MethodName)) ∈ lw_all := lw_g (lw_at lw_m3 28 rfl) rfl
theorem q547 : (Jvm.Cond.privateMethod ({ cls := "NetSearchModel", name := "faceOf", desc := "(II)I" } : Jvm.MethodName)) ∈ lw_tbl := lw_at lw_m3 29 rfl
theorem q548 : (Jvm.Cond.instanceMethod ({ cls := "NetSearchModel", name := "faceOf", desc := "(II)I" } : Jvm.MethodName)) ∈ lw_all := lw_g (lw_at lw_m3 30 rfl) rfl
theorem q549 : (Jvm.Cond.code ({ cls := "NetSearchModel", name := "faceOf", desc := "(II)I" } : Jvm.MethodName) prog_6_method_10_code (4 : Nat) (Option.some Jvm.ClassFile.FieldType.int)) ∈ lw_all := lw_g (lw_at lw_m3 31 rfl) rfl
theorem q550 : (Jvm.Cond.methodLink "NetSearchModel" (128 : Nat) ({ cls := "NetSearchModel", name := "led", desc := "(II)I" } : Jvm.MethodName)) ∈ lw_all := lw_g (lw_at lw_m3 32 rfl) rfl
theorem q551 : (Jvm.Cond.privateMethod ({ cls := "NetSearchModel", name := "led", desc := "(II)I" } : Jvm.MethodName)) ∈ lw_tbl := lw_at lw_m3 33 rfl
theorem q552 : (Jvm.Cond.instanceMethod ({ cls := "NetSearchModel", name := "led", desc := "(II)I" } : Jvm.MethodName)) ∈ lw_all := lw_g (lw_at lw_m3 34 rfl) rfl
theorem q553 : (Jvm.Cond.code ({ cls := "NetSearchModel", name := "led", desc := "(II)I" } : Jvm.MethodName) prog_6_method_15_code (4 : Nat) (Option.some Jvm.ClassFile.FieldType.int)) ∈ lw_all := lw_g (lw_at lw_m3 35 rfl) rfl
theorem q554 : (Jvm.Cond.methodLink "NetSearchModel" (150 : Nat) ({ cls := "NetSearchModel", name := "firstRight", desc := "(I)I" } : Jvm.MethodName)) ∈ lw_all := lw_g (lw_at lw_m3 36 rfl) rfl
theorem q555 : (Jvm.Cond.static ({ cls := "NetSearchModel", name := "firstRight", desc := "(I)I" } : Jvm.MethodName)) ∈ lw_all := lw_g (lw_at lw_m3 37 rfl) rfl
theorem q556 : (Jvm.Cond.code ({ cls := "NetSearchModel", name := "firstRight", desc := "(I)I" } : Jvm.MethodName) prog_6_method_8_code (1 : Nat) (Option.some Jvm.ClassFile.FieldType.int)) ∈ lw_all := lw_g (lw_at lw_m3 38 rfl) rfl
theorem q557 : (Jvm.Cond.methodLink "NetSearchModel" (154 : Nat) ({ cls := "NetSearchModel", name := "firstUp", desc := "(I)I" } : Jvm.MethodName)) ∈ lw_all := lw_g (lw_at lw_m3 39 rfl) rfl
theorem q558 : (Jvm.Cond.static ({ cls := "NetSearchModel", name := "firstUp", desc := "(I)I" } : Jvm.MethodName)) ∈ lw_all := lw_g (lw_at lw_m3 40 rfl) rfl
theorem q559 : (Jvm.Cond.code ({ cls := "NetSearchModel", name := "firstUp", desc := "(I)I" } : Jvm.MethodName) prog_6_method_9_code (1 : Nat) (Option.some Jvm.ClassFile.FieldType.int)) ∈ lw_all := lw_g (lw_at lw_m3 41 rfl) rfl
theorem q560 : (Jvm.Cond.fieldLink "NetSearchModel" (118 : Nat) "NetSearchModel" "cubes" "I") ∈ lw_all := lw_g (lw_at lw_m3 42 rfl) rfl
theorem q561 : (Jvm.Cond.fieldLink "NetSearchModel" (7 : Nat) "NetSearchModel" "cubeX" "[I") ∈ lw_all := lw_g (lw_at lw_m3 43 rfl) rfl
theorem q562 : (Jvm.Cond.fieldLink "NetSearchModel" (13 : Nat) "NetSearchModel" "cubeY" "[I") ∈ lw_all := lw_g (lw_at lw_m3 44 rfl) rfl
theorem q563 : (Jvm.Cond.fieldLink "NetSearchModel" (16 : Nat) "NetSearchModel" "cubeZ" "[I") ∈ lw_all := lw_g (lw_at lw_m3 45 rfl) rfl
theorem q564 : (Jvm.Cond.fieldLink "NetSearchModel" (115 : Nat) "NetSearchModel" "faces" "I") ∈ lw_all := lw_g (lw_at lw_m3 46 rfl) rfl
theorem q565 : (Jvm.Cond.fieldLink "NetSearchModel" (19 : Nat) "NetSearchModel" "cubeOf" "[I") ∈ lw_all := lw_g (lw_at lw_m3 47 rfl) rfl
theorem q566 : (Jvm.Cond.fieldLink "NetSearchModel" (22 : Nat) "NetSearchModel" "looks" "[I") ∈ lw_all := lw_g (lw_at lw_m3 48 rfl) rfl
theorem q567 : (Jvm.Cond.fieldLink "NetSearchModel" (111 : Nat) "NetSearchModel" "laid" "I") ∈ lw_all := lw_g (lw_at lw_m3 49 rfl) rfl
theorem q568 : (Jvm.Cond.fieldLink "NetSearchModel" (25 : Nat) "NetSearchModel" "lies" "[Z") ∈ lw_all := lw_g (lw_at lw_m3 50 rfl) rfl
theorem q569 : (Jvm.Cond.fieldLink "NetSearchModel" (29 : Nat) "NetSearchModel" "handX" "[I") ∈ lw_all := lw_g (lw_at lw_m3 51 rfl) rfl
theorem q570 : (Jvm.Cond.fieldLink "NetSearchModel" (32 : Nat) "NetSearchModel" "handY" "[I") ∈ lw_all := lw_g (lw_at lw_m3 52 rfl) rfl
theorem q571 : (Jvm.Cond.fieldLink "NetSearchModel" (35 : Nat) "NetSearchModel" "handRight" "[I") ∈ lw_all := lw_g (lw_at lw_m3 53 rfl) rfl
theorem q572 : (Jvm.Cond.fieldLink "NetSearchModel" (38 : Nat) "NetSearchModel" "handUp" "[I") ∈ lw_all := lw_g (lw_at lw_m3 54 rfl) rfl
theorem q573 : (Jvm.Cond.fieldLink "NetSearchModel" (144 : Nat) "NetSearchModel" "count" "I") ∈ lw_all := lw_g (lw_at lw_m3 55 rfl) rfl
theorem q574 : (Jvm.Cond.fieldLink "NetSearchModel" (41 : Nat) "NetSearchModel" "order" "[I") ∈ lw_all := lw_g (lw_at lw_m3 56 rfl) rfl
theorem q575 : (Jvm.Cond.fieldLink "NetSearchModel" (44 : Nat) "NetSearchModel" "choice" "[I") ∈ lw_all := lw_g (lw_at lw_m3 57 rfl) rfl
theorem q576 : (Jvm.Cond.fieldLink "NetSearchModel" (47 : Nat) "NetSearchModel" "has" "[Z") ∈ lw_all := lw_g (lw_at lw_m3 58 rfl) rfl
theorem q577 : (Jvm.Cond.fieldLink "NetSearchModel" (50 : Nat) "NetSearchModel" "atX" "[I") ∈ lw_all := lw_g (lw_at lw_m3 59 rfl) rfl
theorem q578 : (Jvm.Cond.fieldLink "NetSearchModel" (53 : Nat) "NetSearchModel" "atY" "[I") ∈ lw_all := lw_g (lw_at lw_m3 60 rfl) rfl
theorem q579 : (Jvm.Cond.fieldLink "NetSearchModel" (56 : Nat) "NetSearchModel" "right" "[I") ∈ lw_all := lw_g (lw_at lw_m3 61 rfl) rfl
theorem q580 : (Jvm.Cond.fieldLink "NetSearchModel" (59 : Nat) "NetSearchModel" "up" "[I") ∈ lw_all := lw_g (lw_at lw_m3 62 rfl) rfl
theorem q581 : (Jvm.Cond.fieldLink "NetSearchModel" (147 : Nat) "NetSearchModel" "step" "I") ∈ lw_all := lw_g (lw_at lw_m3 63 rfl) rfl
theorem q582 : (Jvm.Cond.fieldLink "NetSearchModel" (140 : Nat) "NetSearchModel" "ended" "Z") ∈ lw_all := lw_g (lw_at lw_m3 64 rfl) rfl
theorem q583 : (Jvm.Cond.fieldLink "NetSearchModel" (131 : Nat) "NetSearchModel" "nets" "I") ∈ lw_all := lw_g (lw_at lw_m3 65 rfl) rfl
theorem q584 : (Jvm.Cond.fieldLink "NetSearchModel" (134 : Nat) "NetSearchModel" "work" "I") ∈ lw_all := lw_g (lw_at lw_m3 66 rfl) rfl
theorem q585 : (Jvm.Cond.fieldLink "NetSearchModel" (235 : Nat) "NetSearchModel" "bestWidth" "I") ∈ lw_all := lw_g (lw_at lw_m3 67 rfl) rfl
theorem q586 : (Jvm.Cond.fieldLink "NetSearchModel" (238 : Nat) "NetSearchModel" "bestHeight" "I") ∈ lw_all := lw_g (lw_at lw_m3 68 rfl) rfl
theorem q587 : (Jvm.Cond.fieldLink "NetSearchModel" (137 : Nat) "NetSearchModel" "bestNet" "I") ∈ lw_all := lw_g (lw_at lw_m3 69 rfl) rfl
theorem q588 : (Jvm.Cond.fieldLink "NetSearchModel" (62 : Nat) "NetSearchModel" "bestX" "[I") ∈ lw_all := lw_g (lw_at lw_m3 70 rfl) rfl
theorem q589 : (Jvm.Cond.fieldLink "NetSearchModel" (65 : Nat) "NetSearchModel" "bestY" "[I") ∈ lw_all := lw_g (lw_at lw_m3 71 rfl) rfl
theorem q590 : (Jvm.Cond.fieldLink "NetSearchModel" (182 : Nat) "NetSearchModel" "shapes" "I") ∈ lw_all := lw_g (lw_at lw_m3 72 rfl) rfl
theorem q591 : (Jvm.Cond.fieldLink "NetSearchModel" (68 : Nat) "NetSearchModel" "shapeSize" "[I") ∈ lw_all := lw_g (lw_at lw_m3 73 rfl) rfl
theorem q592 : (Jvm.Cond.fieldLink "NetSearchModel" (71 : Nat) "NetSearchModel" "shapeRow" "[I") ∈ lw_all := lw_g (lw_at lw_m3 74 rfl) rfl
theorem q593 : (Jvm.Cond.fieldLink "NetSearchModel" (74 : Nat) "NetSearchModel" "nextFace" "[I") ∈ lw_all := lw_g (lw_at lw_m3 75 rfl) rfl
theorem q594 : (Jvm.Cond.fieldLink "NetSearchModel" (77 : Nat) "NetSearchModel" "leads" "[I") ∈ lw_all := lw_g (lw_at lw_m3 76 rfl) rfl
theorem q595 : (Jvm.Cond.fieldLink "NetSearchModel" (80 : Nat) "NetSearchModel" "grid" "[J") ∈ lw_all := lw_g (lw_at lw_m3 77 rfl) rfl
theorem q596 : (Jvm.Cond.fieldLink "NetSearchModel" (84 : Nat) "NetSearchModel" "imageX" "[I") ∈ lw_all := lw_g (lw_at lw_m3 78 rfl) rfl
theorem q597 : (Jvm.Cond.fieldLink "NetSearchModel" (87 : Nat) "NetSearchModel" "imageY" "[I") ∈ lw_all := lw_g (lw_at lw_m3 79 rfl) rfl
theorem q598 : (Jvm.Cond.fieldLink "NetSearchModel" (90 : Nat) "NetSearchModel" "row" "[I") ∈ lw_all := lw_g (lw_at lw_m3 80 rfl) rfl
theorem q599 : (Jvm.Cond.fieldLink "NetSearchModel" (93 : Nat) "NetSearchModel" "bestRow" "[I") ∈ lw_all := lw_g (lw_at lw_m3 81 rfl) rfl
theorem q600 : (Jvm.Cond.fieldLink "NetSearchModel" (96 : Nat) "NetSearchModel" "on" "[I") ∈ lw_all := lw_g (lw_at lw_m3 82 rfl) rfl
theorem q601 : (Jvm.Cond.fieldLink "NetSearchModel" (99 : Nat) "NetSearchModel" "onRight" "[I") ∈ lw_all := lw_g (lw_at lw_m3 83 rfl) rfl
theorem q602 : (Jvm.Cond.fieldLink "NetSearchModel" (102 : Nat) "NetSearchModel" "onUp" "[I") ∈ lw_all := lw_g (lw_at lw_m3 84 rfl) rfl
theorem q603 : (Jvm.Cond.fieldLink "NetSearchModel" (105 : Nat) "NetSearchModel" "queue" "[I") ∈ lw_all := lw_g (lw_at lw_m3 85 rfl) rfl
theorem q604 : (Jvm.Cond.lays "NetSearchModel" "NetSearchModel" "cubes" "I") ∈ lw_all := lw_g (lw_at lw_m3 86 rfl) rfl
theorem q605 : (Jvm.Cond.soleField "NetSearchModel" "cubes") ∈ lw_all := lw_g (lw_at lw_m3 87 rfl) rfl
theorem q606 : (Jvm.Cond.laysFinal "NetSearchModel" "NetSearchModel" "cubeX" "[I") ∈ lw_all := lw_g (lw_at lw_m3 88 rfl) rfl
theorem q607 : (Jvm.Cond.soleField "NetSearchModel" "cubeX") ∈ lw_all := lw_g (lw_at lw_m3 89 rfl) rfl
theorem q608 : (Jvm.Cond.laysFinal "NetSearchModel" "NetSearchModel" "cubeY" "[I") ∈ lw_all := lw_g (lw_at lw_m3 90 rfl) rfl
theorem q609 : (Jvm.Cond.soleField "NetSearchModel" "cubeY") ∈ lw_all := lw_g (lw_at lw_m3 91 rfl) rfl
theorem q610 : (Jvm.Cond.laysFinal "NetSearchModel" "NetSearchModel" "cubeZ" "[I") ∈ lw_all := lw_g (lw_at lw_m3 92 rfl) rfl
theorem q611 : (Jvm.Cond.soleField "NetSearchModel" "cubeZ") ∈ lw_all := lw_g (lw_at lw_m3 93 rfl) rfl
theorem q612 : (Jvm.Cond.lays "NetSearchModel" "NetSearchModel" "faces" "I") ∈ lw_all := lw_g (lw_at lw_m3 94 rfl) rfl
theorem q613 : (Jvm.Cond.soleField "NetSearchModel" "faces") ∈ lw_all := lw_g (lw_at lw_m3 95 rfl) rfl
theorem q614 : (Jvm.Cond.laysFinal "NetSearchModel" "NetSearchModel" "cubeOf" "[I") ∈ lw_all := lw_g (lw_at lw_m3 96 rfl) rfl
theorem q615 : (Jvm.Cond.soleField "NetSearchModel" "cubeOf") ∈ lw_all := lw_g (lw_at lw_m3 97 rfl) rfl
theorem q616 : (Jvm.Cond.laysFinal "NetSearchModel" "NetSearchModel" "looks" "[I") ∈ lw_all := lw_g (lw_at lw_m3 98 rfl) rfl
theorem q617 : (Jvm.Cond.soleField "NetSearchModel" "looks") ∈ lw_all := lw_g (lw_at lw_m3 99 rfl) rfl
theorem q618 : (Jvm.Cond.lays "NetSearchModel" "NetSearchModel" "laid" "I") ∈ lw_all := lw_g (lw_at lw_m3 100 rfl) rfl
theorem q619 : (Jvm.Cond.soleField "NetSearchModel" "laid") ∈ lw_all := lw_g (lw_at lw_m3 101 rfl) rfl
theorem q620 : (Jvm.Cond.laysFinal "NetSearchModel" "NetSearchModel" "lies" "[Z") ∈ lw_all := lw_g (lw_at lw_m3 102 rfl) rfl
theorem q621 : (Jvm.Cond.soleField "NetSearchModel" "lies") ∈ lw_all := lw_g (lw_at lw_m3 103 rfl) rfl
theorem q622 : (Jvm.Cond.laysFinal "NetSearchModel" "NetSearchModel" "handX" "[I") ∈ lw_all := lw_g (lw_at lw_m3 104 rfl) rfl
theorem q623 : (Jvm.Cond.soleField "NetSearchModel" "handX") ∈ lw_all := lw_g (lw_at lw_m3 105 rfl) rfl
theorem q624 : (Jvm.Cond.laysFinal "NetSearchModel" "NetSearchModel" "handY" "[I") ∈ lw_all := lw_g (lw_at lw_m3 106 rfl) rfl
theorem q625 : (Jvm.Cond.soleField "NetSearchModel" "handY") ∈ lw_all := lw_g (lw_at lw_m3 107 rfl) rfl
theorem q626 : (Jvm.Cond.laysFinal "NetSearchModel" "NetSearchModel" "handRight" "[I") ∈ lw_all := lw_g (lw_at lw_m3 108 rfl) rfl
theorem q627 : (Jvm.Cond.soleField "NetSearchModel" "handRight") ∈ lw_all := lw_g (lw_at lw_m3 109 rfl) rfl
theorem q628 : (Jvm.Cond.laysFinal "NetSearchModel" "NetSearchModel" "handUp" "[I") ∈ lw_all := lw_g (lw_at lw_m3 110 rfl) rfl
theorem q629 : (Jvm.Cond.soleField "NetSearchModel" "handUp") ∈ lw_all := lw_g (lw_at lw_m3 111 rfl) rfl
theorem q630 : (Jvm.Cond.lays "NetSearchModel" "NetSearchModel" "count" "I") ∈ lw_all := lw_g (lw_at lw_m3 112 rfl) rfl
theorem q631 : (Jvm.Cond.soleField "NetSearchModel" "count") ∈ lw_all := lw_g (lw_at lw_m3 113 rfl) rfl
theorem q632 : (Jvm.Cond.laysFinal "NetSearchModel" "NetSearchModel" "order" "[I") ∈ lw_all := lw_g (lw_at lw_m3 114 rfl) rfl
theorem q633 : (Jvm.Cond.soleField "NetSearchModel" "order") ∈ lw_all := lw_g (lw_at lw_m3 115 rfl) rfl
theorem q634 : (Jvm.Cond.laysFinal "NetSearchModel" "NetSearchModel" "choice" "[I") ∈ lw_all := lw_g (lw_at lw_m3 116 rfl) rfl
theorem q635 : (Jvm.Cond.soleField "NetSearchModel" "choice") ∈ lw_all := lw_g (lw_at lw_m3 117 rfl) rfl
theorem q636 : (Jvm.Cond.laysFinal "NetSearchModel" "NetSearchModel" "has" "[Z") ∈ lw_all := lw_g (lw_at lw_m3 118 rfl) rfl
theorem q637 : (Jvm.Cond.soleField "NetSearchModel" "has") ∈ lw_all := lw_g (lw_at lw_m3 119 rfl) rfl
theorem q638 : (Jvm.Cond.laysFinal "NetSearchModel" "NetSearchModel" "atX" "[I") ∈ lw_all := lw_g (lw_at lw_m3 120 rfl) rfl
theorem q639 : (Jvm.Cond.soleField "NetSearchModel" "atX") ∈ lw_all := lw_g (lw_at lw_m3 121 rfl) rfl
theorem q640 : (Jvm.Cond.laysFinal "NetSearchModel" "NetSearchModel" "atY" "[I") ∈ lw_all := lw_g (lw_at lw_m3 122 rfl) rfl
theorem q641 : (Jvm.Cond.soleField "NetSearchModel" "atY") ∈ lw_all := lw_g (lw_at lw_m3 123 rfl) rfl
theorem q642 : (Jvm.Cond.laysFinal "NetSearchModel" "NetSearchModel" "right" "[I") ∈ lw_all := lw_g (lw_at lw_m3 124 rfl) rfl
theorem q643 : (Jvm.Cond.soleField "NetSearchModel" "right") ∈ lw_all := lw_g (lw_at lw_m3 125 rfl) rfl
theorem q644 : (Jvm.Cond.laysFinal "NetSearchModel" "NetSearchModel" "up" "[I") ∈ lw_all := lw_g (lw_at lw_m3 126 rfl) rfl
theorem q645 : (Jvm.Cond.soleField "NetSearchModel" "up") ∈ lw_all := lw_g (lw_at lw_m3 127 rfl) rfl
theorem q646 : (Jvm.Cond.lays "NetSearchModel" "NetSearchModel" "step" "I") ∈ lw_all := lw_g (lw_at lw_m3 128 rfl) rfl
theorem q647 : (Jvm.Cond.soleField "NetSearchModel" "step") ∈ lw_all := lw_g (lw_at lw_m3 129 rfl) rfl
theorem q648 : (Jvm.Cond.lays "NetSearchModel" "NetSearchModel" "ended" "Z") ∈ lw_all := lw_g (lw_at lw_m3 130 rfl) rfl
theorem q649 : (Jvm.Cond.soleField "NetSearchModel" "ended") ∈ lw_all := lw_g (lw_at lw_m3 131 rfl) rfl
theorem q650 : (Jvm.Cond.lays "NetSearchModel" "NetSearchModel" "nets" "I") ∈ lw_all := lw_g (lw_at lw_m3 132 rfl) rfl
theorem q651 : (Jvm.Cond.soleField "NetSearchModel" "nets") ∈ lw_all := lw_g (lw_at lw_m3 133 rfl) rfl
theorem q652 : (Jvm.Cond.lays "NetSearchModel" "NetSearchModel" "work" "I") ∈ lw_all := lw_g (lw_at lw_m3 134 rfl) rfl
theorem q653 : (Jvm.Cond.soleField "NetSearchModel" "work") ∈ lw_all := lw_g (lw_at lw_m3 135 rfl) rfl
theorem q654 : (Jvm.Cond.lays "NetSearchModel" "NetSearchModel" "bestWidth" "I") ∈ lw_all := lw_g (lw_at lw_m3 136 rfl) rfl
theorem q655 : (Jvm.Cond.soleField "NetSearchModel" "bestWidth") ∈ lw_all := lw_g (lw_at lw_m3 137 rfl) rfl
theorem q656 : (Jvm.Cond.lays "NetSearchModel" "NetSearchModel" "bestHeight" "I") ∈ lw_all := lw_g (lw_at lw_m3 138 rfl) rfl
theorem q657 : (Jvm.Cond.soleField "NetSearchModel" "bestHeight") ∈ lw_all := lw_g (lw_at lw_m3 139 rfl) rfl
theorem q658 : (Jvm.Cond.lays "NetSearchModel" "NetSearchModel" "bestNet" "I") ∈ lw_all := lw_g (lw_at lw_m3 140 rfl) rfl
theorem q659 : (Jvm.Cond.soleField "NetSearchModel" "bestNet") ∈ lw_all := lw_g (lw_at lw_m3 141 rfl) rfl
theorem q660 : (Jvm.Cond.laysFinal "NetSearchModel" "NetSearchModel" "bestX" "[I") ∈ lw_all := lw_g (lw_at lw_m3 142 rfl) rfl
theorem q661 : (Jvm.Cond.soleField "NetSearchModel" "bestX") ∈ lw_all := lw_g (lw_at lw_m3 143 rfl) rfl
theorem q662 : (Jvm.Cond.laysFinal "NetSearchModel" "NetSearchModel" "bestY" "[I") ∈ lw_all := lw_g (lw_at lw_m3 144 rfl) rfl
theorem q663 : (Jvm.Cond.soleField "NetSearchModel" "bestY") ∈ lw_all := lw_g (lw_at lw_m3 145 rfl) rfl
theorem q664 : (Jvm.Cond.lays "NetSearchModel" "NetSearchModel" "shapes" "I") ∈ lw_all := lw_g (lw_at lw_m3 146 rfl) rfl
theorem q665 : (Jvm.Cond.soleField "NetSearchModel" "shapes") ∈ lw_all := lw_g (lw_at lw_m3 147 rfl) rfl
theorem q666 : (Jvm.Cond.laysFinal "NetSearchModel" "NetSearchModel" "shapeSize" "[I") ∈ lw_all := lw_g (lw_at lw_m3 148 rfl) rfl
theorem q667 : (Jvm.Cond.soleField "NetSearchModel" "shapeSize") ∈ lw_all := lw_g (lw_at lw_m3 149 rfl) rfl
theorem q668 : (Jvm.Cond.laysFinal "NetSearchModel" "NetSearchModel" "shapeRow" "[I") ∈ lw_all := lw_g (lw_at lw_m3 150 rfl) rfl
theorem q669 : (Jvm.Cond.soleField "NetSearchModel" "shapeRow") ∈ lw_all := lw_g (lw_at lw_m3 151 rfl) rfl
theorem q670 : (Jvm.Cond.laysFinal "NetSearchModel" "NetSearchModel" "nextFace" "[I") ∈ lw_all := lw_g (lw_at lw_m3 152 rfl) rfl
theorem q671 : (Jvm.Cond.soleField "NetSearchModel" "nextFace") ∈ lw_all := lw_g (lw_at lw_m3 153 rfl) rfl
theorem q672 : (Jvm.Cond.laysFinal "NetSearchModel" "NetSearchModel" "leads" "[I") ∈ lw_all := lw_g (lw_at lw_m3 154 rfl) rfl
theorem q673 : (Jvm.Cond.soleField "NetSearchModel" "leads") ∈ lw_all := lw_g (lw_at lw_m3 155 rfl) rfl
theorem q674 : (Jvm.Cond.laysFinal "NetSearchModel" "NetSearchModel" "grid" "[J") ∈ lw_all := lw_g (lw_at lw_m3 156 rfl) rfl
theorem q675 : (Jvm.Cond.soleField "NetSearchModel" "grid") ∈ lw_all := lw_g (lw_at lw_m3 157 rfl) rfl
theorem q676 : (Jvm.Cond.laysFinal "NetSearchModel" "NetSearchModel" "imageX" "[I") ∈ lw_all := lw_g (lw_at lw_m3 158 rfl) rfl
theorem q677 : (Jvm.Cond.soleField "NetSearchModel" "imageX") ∈ lw_all := lw_g (lw_at lw_m3 159 rfl) rfl
theorem q678 : (Jvm.Cond.laysFinal "NetSearchModel" "NetSearchModel" "imageY" "[I") ∈ lw_all := lw_g (lw_at lw_m3 160 rfl) rfl
theorem q679 : (Jvm.Cond.soleField "NetSearchModel" "imageY") ∈ lw_all := lw_g (lw_at lw_m3 161 rfl) rfl
theorem q680 : (Jvm.Cond.laysFinal "NetSearchModel" "NetSearchModel" "row" "[I") ∈ lw_all := lw_g (lw_at lw_m3 162 rfl) rfl
theorem q681 : (Jvm.Cond.soleField "NetSearchModel" "row") ∈ lw_all := lw_g (lw_at lw_m3 163 rfl) rfl
theorem q682 : (Jvm.Cond.laysFinal "NetSearchModel" "NetSearchModel" "bestRow" "[I") ∈ lw_all := lw_g (lw_at lw_m3 164 rfl) rfl
theorem q683 : (Jvm.Cond.soleField "NetSearchModel" "bestRow") ∈ lw_all := lw_g (lw_at lw_m3 165 rfl) rfl
theorem q684 : (Jvm.Cond.laysFinal "NetSearchModel" "NetSearchModel" "on" "[I") ∈ lw_all := lw_g (lw_at lw_m3 166 rfl) rfl
theorem q685 : (Jvm.Cond.soleField "NetSearchModel" "on") ∈ lw_all := lw_g (lw_at lw_m3 167 rfl) rfl
theorem q686 : (Jvm.Cond.laysFinal "NetSearchModel" "NetSearchModel" "onRight" "[I") ∈ lw_all := lw_g (lw_at lw_m3 168 rfl) rfl
theorem q687 : (Jvm.Cond.soleField "NetSearchModel" "onRight") ∈ lw_all := lw_g (lw_at lw_m3 169 rfl) rfl
theorem q688 : (Jvm.Cond.laysFinal "NetSearchModel" "NetSearchModel" "onUp" "[I") ∈ lw_all := lw_g (lw_at lw_m3 170 rfl) rfl
theorem q689 : (Jvm.Cond.soleField "NetSearchModel" "onUp") ∈ lw_all := lw_g (lw_at lw_m3 171 rfl) rfl
theorem q690 : (Jvm.Cond.laysFinal "NetSearchModel" "NetSearchModel" "queue" "[I") ∈ lw_all := lw_g (lw_at lw_m3 172 rfl) rfl
theorem q691 : (Jvm.Cond.soleField "NetSearchModel" "queue") ∈ lw_all := lw_g (lw_at lw_m3 173 rfl) rfl
theorem q692 : (Jvm.Cond.superclass "NetSearchModel" "java/lang/Object") ∈ lw_all := lw_g (lw_at lw_m3 174 rfl) rfl
theorem q694 : (Jvm.Cond.instanceMethod ({ cls := "NetSearchModel", name := "cube", desc := "(III)I" } : Jvm.MethodName)) ∈ lw_all := lw_g (lw_at lw_m3 176 rfl) rfl
theorem q695 : (Jvm.Cond.selects "NetSearchModel" ({ cls := "NetSearchModel", name := "cube", desc := "(III)I" } : Jvm.MethodName) ({ cls := "NetSearchModel", name := "cube", desc := "(III)I" } : Jvm.MethodName)) ∈ lw_all := lw_g (lw_at lw_m3 177 rfl) rfl
theorem q696 : (Jvm.Cond.code ({ cls := "NetSearchModel", name := "cube", desc := "(III)I" } : Jvm.MethodName) prog_6_method_21_code (6 : Nat) (Option.some Jvm.ClassFile.FieldType.int)) ∈ lw_all := lw_g (lw_at lw_m3 178 rfl) rfl
theorem q698 : (Jvm.Cond.instanceMethod ({ cls := "NetSearchModel", name := "clear", desc := "()I" } : Jvm.MethodName)) ∈ lw_all := lw_g (lw_at lw_m3 180 rfl) rfl
theorem q699 : (Jvm.Cond.selects "NetSearchModel" ({ cls := "NetSearchModel", name := "clear", desc := "()I" } : Jvm.MethodName) ({ cls := "NetSearchModel", name := "clear", desc := "()I" } : Jvm.MethodName)) ∈ lw_all := lw_g (lw_at lw_m3 181 rfl) rfl
theorem q700 : (Jvm.Cond.code ({ cls := "NetSearchModel", name := "clear", desc := "()I" } : Jvm.MethodName) prog_6_method_22_code (2 : Nat) (Option.some Jvm.ClassFile.FieldType.int)) ∈ lw_all := lw_g (lw_at lw_m3 182 rfl) rfl
theorem q702 : (Jvm.Cond.instanceMethod ({ cls := "NetSearchModel", name := "forget", desc := "()I" } : Jvm.MethodName)) ∈ lw_all := lw_g (lw_at lw_m3 184 rfl) rfl
theorem q703 : (Jvm.Cond.selects "NetSearchModel" ({ cls := "NetSearchModel", name := "forget", desc := "()I" } : Jvm.MethodName) ({ cls := "NetSearchModel", name := "forget", desc := "()I" } : Jvm.MethodName)) ∈ lw_all := lw_g (lw_at lw_m3 185 rfl) rfl
theorem q704 : (Jvm.Cond.code ({ cls := "NetSearchModel", name := "forget", desc := "()I" } : Jvm.MethodName) prog_6_method_23_code (2 : Nat) (Option.some Jvm.ClassFile.FieldType.int)) ∈ lw_all := lw_g (lw_at lw_m3 186 rfl) rfl
theorem q706 : (Jvm.Cond.instanceMethod ({ cls := "NetSearchModel", name := "face", desc := "(II)I" } : Jvm.MethodName)) ∈ lw_all := lw_g (lw_at lw_m3 188 rfl) rfl
theorem q707 : (Jvm.Cond.selects "NetSearchModel" ({ cls := "NetSearchModel", name := "face", desc := "(II)I" } : Jvm.MethodName) ({ cls := "NetSearchModel", name := "face", desc := "(II)I" } : Jvm.MethodName)) ∈ lw_all := lw_g (lw_at lw_m3 189 rfl) rfl
theorem q708 : (Jvm.Cond.code ({ cls := "NetSearchModel", name := "face", desc := "(II)I" } : Jvm.MethodName) prog_6_method_25_code (3 : Nat) (Option.some Jvm.ClassFile.FieldType.int)) ∈ lw_all := lw_g (lw_at lw_m3 190 rfl) rfl
theorem q709 : (Jvm.Cond.methodLink "NetSearchModel" (185 : Nat) ({ cls := "NetSearchModel", name := "isFace", desc := "(I)Z" } : Jvm.MethodName)) ∈ lw_all := lw_g (lw_at lw_m3 191 rfl) rfl
theorem q710 : (Jvm.Cond.privateMethod ({ cls := "NetSearchModel", name := "isFace", desc := "(I)Z" } : Jvm.MethodName)) ∈ lw_tbl := lw_at lw_m3 192 rfl
theorem q711 : (Jvm.Cond.instanceMethod ({ cls := "NetSearchModel", name := "isFace", desc := "(I)Z" } : Jvm.MethodName)) ∈ lw_all := lw_g (lw_at lw_m3 193 rfl) rfl
theorem q712 : (Jvm.Cond.code ({ cls := "NetSearchModel", name := "isFace", desc := "(I)Z" } : Jvm.MethodName) prog_6_method_24_code (2 : Nat) (Option.some Jvm.ClassFile.FieldType.boolean)) ∈ lw_all := lw_g (lw_at lw_m3 194 rfl) rfl
theorem q714 : (Jvm.Cond.instanceMethod ({ cls := "NetSearchModel", name := "across", desc := "(II)I" } : Jvm.MethodName)) ∈ lw_all := lw_g (lw_at lw_m3 196 rfl) rfl
theorem q715 : (Jvm.Cond.selects "NetSearchModel" ({ cls := "NetSearchModel", name := "across", desc := "(II)I" } : Jvm.MethodName) ({ cls := "NetSearchModel", name := "across", desc := "(II)I" } : Jvm.MethodName)) ∈ lw_all := lw_g (lw_at lw_m3 197 rfl) rfl
theorem q716 : (Jvm.Cond.code ({ cls := "NetSearchModel", name := "across", desc := "(II)I" } : Jvm.MethodName) prog_6_method_26_code (3 : Nat) (Option.some Jvm.ClassFile.FieldType.int)) ∈ lw_all := lw_g (lw_at lw_m3 198 rfl) rfl
theorem q717 : (Jvm.Cond.methodLink "NetSearchModel" (189 : Nat) ({ cls := "NetSearchModel", name := "beside", desc := "(II)I" } : Jvm.MethodName)) ∈ lw_all := lw_g (lw_at lw_m3 199 rfl) rfl
theorem q718 : (Jvm.Cond.privateMethod ({ cls := "NetSearchModel", name := "beside", desc := "(II)I" } : Jvm.MethodName)) ∈ lw_tbl := lw_at lw_m3 200 rfl
theorem q719 : (Jvm.Cond.instanceMethod ({ cls := "NetSearchModel", name := "beside", desc := "(II)I" } : Jvm.MethodName)) ∈ lw_all := lw_g (lw_at lw_m3 201 rfl) rfl
theorem q720 : (Jvm.Cond.code ({ cls := "NetSearchModel", name := "beside", desc := "(II)I" } : Jvm.MethodName) prog_6_method_12_code (3 : Nat) (Option.some Jvm.ClassFile.FieldType.int)) ∈ lw_all := lw_g (lw_at lw_m3 202 rfl) rfl
theorem q722 : (Jvm.Cond.instanceMethod ({ cls := "NetSearchModel", name := "trees", desc := "()J" } : Jvm.MethodName)) ∈ lw_all := lw_g (lw_at lw_m3 204 rfl) rfl
theorem q723 : (Jvm.Cond.selects "NetSearchModel" ({ cls := "NetSearchModel", name := "trees", desc := "()J" } : Jvm.MethodName) ({ cls := "NetSearchModel", name := "trees", desc := "()J" } : Jvm.MethodName)) ∈ lw_all := lw_g (lw_at lw_m3 205 rfl) rfl
theorem q724 : (Jvm.Cond.code ({ cls := "NetSearchModel", name := "trees", desc := "()J" } : Jvm.MethodName) prog_6_method_29_code (11 : Nat) (Option.some Jvm.ClassFile.FieldType.long)) ∈ lw_all := lw_g (lw_at lw_m3 206 rfl) rfl
theorem q725 : (Jvm.Cond.constantLong "NetSearchModel" (198 : Nat) (-2 : Int64)) ∈ lw_all := lw_g (lw_at lw_m3 207 rfl) rfl
theorem q726 : (Jvm.Cond.constantLong "NetSearchModel" (200 : Nat) (2147483647 : Int64)) ∈ lw_all := lw_g (lw_at lw_m3 208 rfl) rfl
theorem q727 : (Jvm.Cond.constantLong "NetSearchModel" (202 : Nat) (2147483629 : Int64)) ∈ lw_all := lw_g (lw_at lw_m3 209 rfl) rfl
theorem q728 : (Jvm.Cond.methodLink "NetSearchModel" (204 : Nat) ({ cls := "NetSearchModel", name := "treesBy", desc := "(J)J" } : Jvm.MethodName)) ∈ lw_all := lw_g (lw_at lw_m3 210 rfl) rfl
theorem q729 : (Jvm.Cond.privateMethod ({ cls := "NetSearchModel", name := "treesBy", desc := "(J)J" } : Jvm.MethodName)) ∈ lw_tbl := lw_at lw_m3 211 rfl
theorem q730 : (Jvm.Cond.instanceMethod ({ cls := "NetSearchModel", name := "treesBy", desc := "(J)J" } : Jvm.MethodName)) ∈ lw_all := lw_g (lw_at lw_m3 212 rfl) rfl
theorem q731 : (Jvm.Cond.code ({ cls := "NetSearchModel", name := "treesBy", desc := "(J)J" } : Jvm.MethodName) prog_6_method_28_code (16 : Nat) (Option.some Jvm.ClassFile.FieldType.long)) ∈ lw_all := lw_g (lw_at lw_m3 213 rfl) rfl
theorem q732 : (Jvm.Cond.constantLong "NetSearchModel" (192 : Nat) (2 : Int64)) ∈ lw_all := lw_g (lw_at lw_m3 214 rfl) rfl
theorem q733 : (Jvm.Cond.methodLink "NetSearchModel" (194 : Nat) ({ cls := "NetSearchModel", name := "power", desc := "(JJJ)J" } : Jvm.MethodName)) ∈ lw_all := lw_g (lw_at lw_m3 215 rfl) rfl
theorem q734 : (Jvm.Cond.static ({ cls := "NetSearchModel", name := "power", desc := "(JJJ)J" } : Jvm.MethodName)) ∈ lw_all := lw_g (lw_at lw_m3 216 rfl) rfl
theorem q735 : (Jvm.Cond.code ({ cls := "NetSearchModel", name := "power", desc := "(JJJ)J" } : Jvm.MethodName) prog_6_method_27_code (12 : Nat) (Option.some Jvm.ClassFile.FieldType.long)) ∈ lw_all := lw_g (lw_at lw_m3 217 rfl) rfl
theorem q737 : (Jvm.Cond.instanceMethod ({ cls := "NetSearchModel", name := "lay", desc := "(I)I" } : Jvm.MethodName)) ∈ lw_all := lw_g (lw_at lw_m3 219 rfl) rfl
theorem q738 : (Jvm.Cond.selects "NetSearchModel" ({ cls := "NetSearchModel", name := "lay", desc := "(I)I" } : Jvm.MethodName) ({ cls := "NetSearchModel", name := "lay", desc := "(I)I" } : Jvm.MethodName)) ∈ lw_all := lw_g (lw_at lw_m3 220 rfl) rfl
theorem q739 : (Jvm.Cond.code ({ cls := "NetSearchModel", name := "lay", desc := "(I)I" } : Jvm.MethodName) prog_6_method_30_code (3 : Nat) (Option.some Jvm.ClassFile.FieldType.int)) ∈ lw_all := lw_g (lw_at lw_m3 221 rfl) rfl
theorem q741 : (Jvm.Cond.instanceMethod ({ cls := "NetSearchModel", name := "grow", desc := "(II)I" } : Jvm.MethodName)) ∈ lw_all := lw_g (lw_at lw_m3 223 rfl) rfl
theorem q742 : (Jvm.Cond.selects "NetSearchModel" ({ cls := "NetSearchModel", name := "grow", desc := "(II)I" } : Jvm.MethodName) ({ cls := "NetSearchModel", name := "grow", desc := "(II)I" } : Jvm.MethodName)) ∈ lw_all := lw_g (lw_at lw_m3 224 rfl) rfl
theorem q743 : (Jvm.Cond.code ({ cls := "NetSearchModel", name := "grow", desc := "(II)I" } : Jvm.MethodName) prog_6_method_31_code (7 : Nat) (Option.some Jvm.ClassFile.FieldType.int)) ∈ lw_all := lw_g (lw_at lw_m3 225 rfl) rfl
theorem q744 : (Jvm.Cond.methodLink "NetSearchModel" (176 : Nat) ({ cls := "NetSearchModel", name := "sideOf", desc := "(III)I" } : Jvm.MethodName)) ∈ lw_all := lw_g (lw_at lw_m3 226 rfl) rfl
theorem q745 : (Jvm.Cond.static ({ cls := "NetSearchModel", name := "sideOf", desc := "(III)I" } : Jvm.MethodName)) ∈ lw_all := lw_g (lw_at lw_m3 227 rfl) rfl
theorem q746 : (Jvm.Cond.code ({ cls := "NetSearchModel", name := "sideOf", desc := "(III)I" } : Jvm.MethodName) prog_6_method_16_code (3 : Nat) (Option.some Jvm.ClassFile.FieldType.int)) ∈ lw_all := lw_g (lw_at lw_m3 228 rfl) rfl
theorem q747 : (Jvm.Cond.methodLink "NetSearchModel" (208 : Nat) ({ cls := "NetSearchModel", name := "sideX", desc := "(I)I" } : Jvm.MethodName)) ∈ lw_all := lw_g (lw_at lw_m3 229 rfl) rfl
theorem q748 : (Jvm.Cond.static ({ cls := "NetSearchModel", name := "sideX", desc := "(I)I" } : Jvm.MethodName)) ∈ lw_all := lw_g (lw_at lw_m3 230 rfl) rfl
theorem q749 : (Jvm.Cond.code ({ cls := "NetSearchModel", name := "sideX", desc := "(I)I" } : Jvm.MethodName) prog_6_method_17_code (1 : Nat) (Option.some Jvm.ClassFile.FieldType.int)) ∈ lw_all := lw_g (lw_at lw_m3 231 rfl) rfl
theorem q750 : (Jvm.Cond.methodLink "NetSearchModel" (211 : Nat) ({ cls := "NetSearchModel", name := "sideY", desc := "(I)I" } : Jvm.MethodName)) ∈ lw_all := lw_g (lw_at lw_m3 232 rfl) rfl
theorem q751 : (Jvm.Cond.static ({ cls := "NetSearchModel", name := "sideY", desc := "(I)I" } : Jvm.MethodName)) ∈ lw_all := lw_g (lw_at lw_m3 233 rfl) rfl
theorem q752 : (Jvm.Cond.code ({ cls := "NetSearchModel", name := "sideY", desc := "(I)I" } : Jvm.MethodName) prog_6_method_18_code (1 : Nat) (Option.some Jvm.ClassFile.FieldType.int)) ∈ lw_all := lw_g (lw_at lw_m3 234 rfl) rfl
theorem q753 : (Jvm.Cond.methodLink "NetSearchModel" (214 : Nat) ({ cls := "NetSearchModel", name := "nextRight", desc := "(IIII)I" } : Jvm.MethodName)) ∈ lw_all := lw_g (lw_at lw_m3 235 rfl) rfl
theorem q754 : (Jvm.Cond.privateMethod ({ cls := "NetSearchModel", name := "nextRight", desc := "(IIII)I" } : Jvm.MethodName)) ∈ lw_tbl := lw_at lw_m3 236 rfl
theorem q755 : (Jvm.Cond.instanceMethod ({ cls := "NetSearchModel", name := "nextRight", desc := "(IIII)I" } : Jvm.MethodName)) ∈ lw_all := lw_g (lw_at lw_m3 237 rfl) rfl
theorem q756 : (Jvm.Cond.code ({ cls := "NetSearchModel", name := "nextRight", desc := "(IIII)I" } : Jvm.MethodName) prog_6_method_19_code (6 : Nat) (Option.some Jvm.ClassFile.FieldType.int)) ∈ lw_all := lw_g (lw_at lw_m3 238 rfl) rfl
theorem q757 : (Jvm.Cond.methodLink "NetSearchModel" (179 : Nat) ({ cls := "NetSearchModel", name := "lead", desc := "(II)I" } : Jvm.MethodName)) ∈ lw_all := lw_g (lw_at lw_m3 239 rfl) rfl
theorem q758 : (Jvm.Cond.privateMethod ({ cls := "NetSearchModel", name := "lead", desc := "(II)I" } : Jvm.MethodName)) ∈ lw_tbl := lw_at lw_m4 0 rfl
theorem q759 : (Jvm.Cond.instanceMethod ({ cls := "NetSearchModel", name := "lead", desc := "(II)I" } : Jvm.MethodName)) ∈ lw_all := lw_g (lw_at lw_m4 1 rfl) rfl
theorem q760 : (Jvm.Cond.code ({ cls := "NetSearchModel", name := "lead", desc := "(II)I" } : Jvm.MethodName) prog_6_method_13_code (3 : Nat) (Option.some Jvm.ClassFile.FieldType.int)) ∈ lw_all := lw_g (lw_at lw_m4 2 rfl) rfl
theorem q761 : (Jvm.Cond.methodLink "NetSearchModel" (218 : Nat) ({ cls := "NetSearchModel", name := "nextUp", desc := "(IIII)I" } : Jvm.MethodName)) ∈ lw_all := lw_g (lw_at lw_m4 3 rfl) rfl
theorem q762 : (Jvm.Cond.privateMethod ({ cls := "NetSearchModel", name := "nextUp", desc := "(IIII)I" } : Jvm.MethodName)) ∈ lw_tbl := lw_at lw_m4 4 rfl
theorem q763 : (Jvm.Cond.instanceMethod ({ cls := "NetSearchModel", name := "nextUp", desc := "(IIII)I" } : Jvm.MethodName)) ∈ lw_all := lw_g (lw_at lw_m4 5 rfl) rfl
theorem q764 : (Jvm.Cond.code ({ cls := "NetSearchModel", name := "nextUp", desc := "(IIII)I" } : Jvm.MethodName) prog_6_method_20_code (6 : Nat) (Option.some Jvm.ClassFile.FieldType.int)) ∈ lw_all := lw_g (lw_at lw_m4 6 rfl) rfl
theorem q766 : (Jvm.Cond.instanceMethod ({ cls := "NetSearchModel", name := "paper", desc := "(II)I" } : Jvm.MethodName)) ∈ lw_all := lw_g (lw_at lw_m4 8 rfl) rfl
theorem q767 : (Jvm.Cond.selects "NetSearchModel" ({ cls := "NetSearchModel", name := "paper", desc := "(II)I" } : Jvm.MethodName) ({ cls := "NetSearchModel", name := "paper", desc := "(II)I" } : Jvm.MethodName)) ∈ lw_all := lw_g (lw_at lw_m4 9 rfl) rfl
theorem q768 : (Jvm.Cond.code ({ cls := "NetSearchModel", name := "paper", desc := "(II)I" } : Jvm.MethodName) prog_6_method_32_code (3 : Nat) (Option.some Jvm.ClassFile.FieldType.int)) ∈ lw_all := lw_g (lw_at lw_m4 10 rfl) rfl
theorem q770 : (Jvm.Cond.instanceMethod ({ cls := "NetSearchModel", name := "run", desc := "(I)I" } : Jvm.MethodName)) ∈ lw_all := lw_g (lw_at lw_m4 12 rfl) rfl
theorem q771 : (Jvm.Cond.selects "NetSearchModel" ({ cls := "NetSearchModel", name := "run", desc := "(I)I" } : Jvm.MethodName) ({ cls := "NetSearchModel", name := "run", desc := "(I)I" } : Jvm.MethodName)) ∈ lw_all := lw_g (lw_at lw_m4 13 rfl) rfl
theorem q772 : (Jvm.Cond.code ({ cls := "NetSearchModel", name := "run", desc := "(I)I" } : Jvm.MethodName) prog_6_method_34_code (8 : Nat) (Option.some Jvm.ClassFile.FieldType.int)) ∈ lw_all := lw_g (lw_at lw_m4 14 rfl) rfl
theorem q773 : (Jvm.Cond.methodLink "NetSearchModel" (221 : Nat) ({ cls := "NetSearchModel", name := "net", desc := "()V" } : Jvm.MethodName)) ∈ lw_all := lw_g (lw_at lw_m4 15 rfl) rfl
theorem q774 : (Jvm.Cond.privateMethod ({ cls := "NetSearchModel", name := "net", desc := "()V" } : Jvm.MethodName)) ∈ lw_tbl := lw_at lw_m4 16 rfl
theorem q775 : (Jvm.Cond.instanceMethod ({ cls := "NetSearchModel", name := "net", desc := "()V" } : Jvm.MethodName)) ∈ lw_all := lw_g (lw_at lw_m4 17 rfl) rfl
theorem q776 : (Jvm.Cond.code ({ cls := "NetSearchModel", name := "net", desc := "()V" } : Jvm.MethodName) prog_6_method_39_code (9 : Nat) (Option.none : Option Jvm.ClassFile.FieldType)) ∈ lw_all := lw_g (lw_at lw_m4 18 rfl) rfl
theorem q777 : (Jvm.Cond.methodLink "NetSearchModel" (228 : Nat) ({ cls := "NetSearchModel", name := "most", desc := "([I)I" } : Jvm.MethodName)) ∈ lw_all := lw_g (lw_at lw_m4 19 rfl) rfl
theorem q778 : (Jvm.Cond.privateMethod ({ cls := "NetSearchModel", name := "most", desc := "([I)I" } : Jvm.MethodName)) ∈ lw_tbl := lw_at lw_m4 20 rfl
theorem q779 : (Jvm.Cond.instanceMethod ({ cls := "NetSearchModel", name := "most", desc := "([I)I" } : Jvm.MethodName)) ∈ lw_all := lw_g (lw_at lw_m4 21 rfl) rfl
theorem q780 : (Jvm.Cond.code ({ cls := "NetSearchModel", name := "most", desc := "([I)I" } : Jvm.MethodName) prog_6_method_36_code (4 : Nat) (Option.some Jvm.ClassFile.FieldType.int)) ∈ lw_all := lw_g (lw_at lw_m4 22 rfl) rfl
theorem q781 : (Jvm.Cond.methodLink "NetSearchModel" (232 : Nat) ({ cls := "NetSearchModel", name := "least", desc := "([I)I" } : Jvm.MethodName)) ∈ lw_all := lw_g (lw_at lw_m4 23 rfl) rfl
theorem q782 : (Jvm.Cond.privateMethod ({ cls := "NetSearchModel", name := "least", desc := "([I)I" } : Jvm.MethodName)) ∈ lw_tbl := lw_at lw_m4 24 rfl
theorem q783 : (Jvm.Cond.instanceMethod ({ cls := "NetSearchModel", name := "least", desc := "([I)I" } : Jvm.MethodName)) ∈ lw_all := lw_g (lw_at lw_m4 25 rfl) rfl
theorem q784 : (Jvm.Cond.code ({ cls := "NetSearchModel", name := "least", desc := "([I)I" } : Jvm.MethodName) prog_6_method_35_code (4 : Nat) (Option.some Jvm.ClassFile.FieldType.int)) ∈ lw_all := lw_g (lw_at lw_m4 26 rfl) rfl
theorem q785 : (Jvm.Cond.methodLink "NetSearchModel" (241 : Nat) ({ cls := "NetSearchModel", name := "imageOfX", desc := "(III)I" } : Jvm.MethodName)) ∈ lw_all := lw_g (lw_at lw_m4 27 rfl) rfl
theorem q786 : (Jvm.Cond.static ({ cls := "NetSearchModel", name := "imageOfX", desc := "(III)I" } : Jvm.MethodName)) ∈ lw_all := lw_g (lw_at lw_m4 28 rfl) rfl
theorem q787 : (Jvm.Cond.code ({ cls := "NetSearchModel", name := "imageOfX", desc := "(III)I" } : Jvm.MethodName) prog_6_method_37_code (4 : Nat) (Option.some Jvm.ClassFile.FieldType.int)) ∈ lw_all := lw_g (lw_at lw_m4 29 rfl) rfl
theorem q788 : (Jvm.Cond.methodLink "NetSearchModel" (244 : Nat) ({ cls := "NetSearchModel", name := "imageOfY", desc := "(III)I" } : Jvm.MethodName)) ∈ lw_all := lw_g (lw_at lw_m4 30 rfl) rfl
theorem q789 : (Jvm.Cond.static ({ cls := "NetSearchModel", name := "imageOfY", desc := "(III)I" } : Jvm.MethodName)) ∈ lw_all := lw_g (lw_at lw_m4 31 rfl) rfl
theorem q790 : (Jvm.Cond.code ({ cls := "NetSearchModel", name := "imageOfY", desc := "(III)I" } : Jvm.MethodName) prog_6_method_38_code (4 : Nat) (Option.some Jvm.ClassFile.FieldType.int)) ∈ lw_all := lw_g (lw_at lw_m4 32 rfl) rfl
theorem q791 : (Jvm.Cond.methodLink "NetSearchModel" (247 : Nat) ({ cls := "NetSearchModel", name := "keep", desc := "()V" } : Jvm.MethodName)) ∈ lw_all := lw_g (lw_at lw_m4 33 rfl) rfl
theorem q792 : (Jvm.Cond.privateMethod ({ cls := "NetSearchModel", name := "keep", desc := "()V" } : Jvm.MethodName)) ∈ lw_tbl := lw_at lw_m4 34 rfl
theorem q793 : (Jvm.Cond.instanceMethod ({ cls := "NetSearchModel", name := "keep", desc := "()V" } : Jvm.MethodName)) ∈ lw_all := lw_g (lw_at lw_m4 35 rfl) rfl
theorem q794 : (Jvm.Cond.code ({ cls := "NetSearchModel", name := "keep", desc := "()V" } : Jvm.MethodName) prog_6_method_40_code (4 : Nat) (Option.none : Option Jvm.ClassFile.FieldType)) ∈ lw_all := lw_g (lw_at lw_m4 36 rfl) rfl
theorem q795 : (Jvm.Cond.methodLink "NetSearchModel" (224 : Nat) ({ cls := "NetSearchModel", name := "isEmpty", desc := "(II)Z" } : Jvm.MethodName)) ∈ lw_all := lw_g (lw_at lw_m4 37 rfl) rfl
theorem q796 : (Jvm.Cond.privateMethod ({ cls := "NetSearchModel", name := "isEmpty", desc := "(II)Z" } : Jvm.MethodName)) ∈ lw_tbl := lw_at lw_m4 38 rfl
theorem q797 : (Jvm.Cond.instanceMethod ({ cls := "NetSearchModel", name := "isEmpty", desc := "(II)Z" } : Jvm.MethodName)) ∈ lw_all := lw_g (lw_at lw_m4 39 rfl) rfl
theorem q798 : (Jvm.Cond.code ({ cls := "NetSearchModel", name := "isEmpty", desc := "(II)Z" } : Jvm.MethodName) prog_6_method_33_code (5 : Nat) (Option.some Jvm.ClassFile.FieldType.boolean)) ∈ lw_all := lw_g (lw_at lw_m4 40 rfl) rfl
theorem q800 : (Jvm.Cond.instanceMethod ({ cls := "NetSearchModel", name := "told", desc := "(I)I" } : Jvm.MethodName)) ∈ lw_all := lw_g (lw_at lw_m4 42 rfl) rfl
theorem q801 : (Jvm.Cond.selects "NetSearchModel" ({ cls := "NetSearchModel", name := "told", desc := "(I)I" } : Jvm.MethodName) ({ cls := "NetSearchModel", name := "told", desc := "(I)I" } : Jvm.MethodName)) ∈ lw_all := lw_g (lw_at lw_m4 43 rfl) rfl
theorem q802 : (Jvm.Cond.code ({ cls := "NetSearchModel", name := "told", desc := "(I)I" } : Jvm.MethodName) prog_6_method_41_code (2 : Nat) (Option.some Jvm.ClassFile.FieldType.int)) ∈ lw_all := lw_g (lw_at lw_m4 44 rfl) rfl
theorem q804 : (Jvm.Cond.instanceMethod ({ cls := "NetSearchModel", name := "best", desc := "(II)I" } : Jvm.MethodName)) ∈ lw_all := lw_g (lw_at lw_m4 46 rfl) rfl
theorem q805 : (Jvm.Cond.selects "NetSearchModel" ({ cls := "NetSearchModel", name := "best", desc := "(II)I" } : Jvm.MethodName) ({ cls := "NetSearchModel", name := "best", desc := "(II)I" } : Jvm.MethodName)) ∈ lw_all := lw_g (lw_at lw_m4 47 rfl) rfl
theorem q806 : (Jvm.Cond.code ({ cls := "NetSearchModel", name := "best", desc := "(II)I" } : Jvm.MethodName) prog_6_method_42_code (3 : Nat) (Option.some Jvm.ClassFile.FieldType.int)) ∈ lw_all := lw_g (lw_at lw_m4 48 rfl) rfl
theorem q808 : (Jvm.Cond.instanceMethod ({ cls := "NetSearchModel", name := "shape", desc := "(III)I" } : Jvm.MethodName)) ∈ lw_all := lw_g (lw_at lw_m4 50 rfl) rfl
theorem q809 : (Jvm.Cond.selects "NetSearchModel" ({ cls := "NetSearchModel", name := "shape", desc := "(III)I" } : Jvm.MethodName) ({ cls := "NetSearchModel", name := "shape", desc := "(III)I" } : Jvm.MethodName)) ∈ lw_all := lw_g (lw_at lw_m4 51 rfl) rfl
theorem q810 : (Jvm.Cond.code ({ cls := "NetSearchModel", name := "shape", desc := "(III)I" } : Jvm.MethodName) prog_6_method_44_code (4 : Nat) (Option.some Jvm.ClassFile.FieldType.int)) ∈ lw_all := lw_g (lw_at lw_m4 52 rfl) rfl
theorem q811 : (Jvm.Cond.methodLink "NetSearchModel" (250 : Nat) ({ cls := "NetSearchModel", name := "isShape", desc := "(I)Z" } : Jvm.MethodName)) ∈ lw_all := lw_g (lw_at lw_m4 53 rfl) rfl
theorem q812 : (Jvm.Cond.privateMethod ({ cls := "NetSearchModel", name := "isShape", desc := "(I)Z" } : Jvm.MethodName)) ∈ lw_tbl := lw_at lw_m4 54 rfl
theorem q813 : (Jvm.Cond.instanceMethod ({ cls := "NetSearchModel", name := "isShape", desc := "(I)Z" } : Jvm.MethodName)) ∈ lw_all := lw_g (lw_at lw_m4 55 rfl) rfl
theorem q814 : (Jvm.Cond.code ({ cls := "NetSearchModel", name := "isShape", desc := "(I)Z" } : Jvm.MethodName) prog_6_method_43_code (2 : Nat) (Option.some Jvm.ClassFile.FieldType.boolean)) ∈ lw_all := lw_g (lw_at lw_m4 56 rfl) rfl
theorem q816 : (Jvm.Cond.instanceMethod ({ cls := "NetSearchModel", name := "size", desc := "(I)I" } : Jvm.MethodName)) ∈ lw_all := lw_g (lw_at lw_m4 58 rfl) rfl
theorem q817 : (Jvm.Cond.selects "NetSearchModel" ({ cls := "NetSearchModel", name := "size", desc := "(I)I" } : Jvm.MethodName) ({ cls := "NetSearchModel", name := "size", desc := "(I)I" } : Jvm.MethodName)) ∈ lw_all := lw_g (lw_at lw_m4 59 rfl) rfl
theorem q818 : (Jvm.Cond.code ({ cls := "NetSearchModel", name := "size", desc := "(I)I" } : Jvm.MethodName) prog_6_method_45_code (2 : Nat) (Option.some Jvm.ClassFile.FieldType.int)) ∈ lw_all := lw_g (lw_at lw_m4 60 rfl) rfl
theorem q820 : (Jvm.Cond.instanceMethod ({ cls := "NetSearchModel", name := "wraps", desc := "(I)I" } : Jvm.MethodName)) ∈ lw_all := lw_g (lw_at lw_m4 62 rfl) rfl
theorem q821 : (Jvm.Cond.selects "NetSearchModel" ({ cls := "NetSearchModel", name := "wraps", desc := "(I)I" } : Jvm.MethodName) ({ cls := "NetSearchModel", name := "wraps", desc := "(I)I" } : Jvm.MethodName)) ∈ lw_all := lw_g (lw_at lw_m4 63 rfl) rfl
theorem q822 : (Jvm.Cond.code ({ cls := "NetSearchModel", name := "wraps", desc := "(I)I" } : Jvm.MethodName) prog_6_method_48_code (5 : Nat) (Option.some Jvm.ClassFile.FieldType.int)) ∈ lw_all := lw_g (lw_at lw_m4 64 rfl) rfl
theorem q823 : (Jvm.Cond.methodLink "NetSearchModel" (256 : Nat) ({ cls := "NetSearchModel", name := "isWrapped", desc := "(III)Z" } : Jvm.MethodName)) ∈ lw_all := lw_g (lw_at lw_m4 65 rfl) rfl
theorem q824 : (Jvm.Cond.privateMethod ({ cls := "NetSearchModel", name := "isWrapped", desc := "(III)Z" } : Jvm.MethodName)) ∈ lw_tbl := lw_at lw_m4 66 rfl
theorem q825 : (Jvm.Cond.instanceMethod ({ cls := "NetSearchModel", name := "isWrapped", desc := "(III)Z" } : Jvm.MethodName)) ∈ lw_all := lw_g (lw_at lw_m4 67 rfl) rfl
theorem q826 : (Jvm.Cond.code ({ cls := "NetSearchModel", name := "isWrapped", desc := "(III)Z" } : Jvm.MethodName) prog_6_method_47_code (13 : Nat) (Option.some Jvm.ClassFile.FieldType.boolean)) ∈ lw_all := lw_g (lw_at lw_m4 68 rfl) rfl
theorem q827 : (Jvm.Cond.methodLink "NetSearchModel" (253 : Nat) ({ cls := "NetSearchModel", name := "placeAt", desc := "(III)I" } : Jvm.MethodName)) ∈ lw_all := lw_g (lw_at lw_m4 69 rfl) rfl
theorem q828 : (Jvm.Cond.privateMethod ({ cls := "NetSearchModel", name := "placeAt", desc := "(III)I" } : Jvm.MethodName)) ∈ lw_tbl := lw_at lw_m4 70 rfl
theorem q829 : (Jvm.Cond.instanceMethod ({ cls := "NetSearchModel", name := "placeAt", desc := "(III)I" } : Jvm.MethodName)) ∈ lw_all := lw_g (lw_at lw_m4 71 rfl) rfl
theorem q830 : (Jvm.Cond.code ({ cls := "NetSearchModel", name := "placeAt", desc := "(III)I" } : Jvm.MethodName) prog_6_method_46_code (5 : Nat) (Option.some Jvm.ClassFile.FieldType.int)) ∈ lw_all := lw_g (lw_at lw_m4 72 rfl) rfl
theorem in_X4 : ∀ w ∈ wsX40, w ∈ lw_all := lw_in wsX40 [604, 606, 608, 610, 612, 614, 616, 618, 620, 622, 624, 626, 628, 630, 632, 634, 636, 638, 640, 642, 644, 646, 648, 650, 652, 654, 656, 658, 660, 662, 664, 666, 668, 670, 672, 674, 676, 678, 680, 682, 684, 686, 688, 690] (by decide +kernel) (by decide +kernel)

/-! java/util/Arrays -/
def RJ0 : String := "java/util/Arrays"
abbrev cJ0_fill : ByteArray := prog_12_method_101_code
def yJ0_fill : MethodName := ⟨RJ0, "fill", "([JJ)V"⟩
abbrev cJ0_sort : ByteArray := prog_12_method_3_code
def yJ0_sort : MethodName := ⟨RJ0, "sort", "([III)V"⟩
abbrev cJ0_rangeCheck : ByteArray := prog_12_method_30_code
def yJ0_rangeCheck : MethodName := ⟨RJ0, "rangeCheck", "(III)V"⟩
abbrev cJ0_copyOf : ByteArray := prog_12_method_123_code
def yJ0_copyOf : MethodName := ⟨RJ0, "copyOf", "([II)[I"⟩
abbrev cJ0_fill_2 : ByteArray := prog_12_method_103_code
def yJ0_fill_2 : MethodName := ⟨RJ0, "fill", "([II)V"⟩
theorem q45 : (Jvm.Cond.initialized "java/util/Arrays") ∈ lw_all := lw_g (lw_at lw_m1 7 rfl) rfl
theorem q325 : (Jvm.Cond.static ({ cls := "java/util/Arrays", name := "fill", desc := "([JJ)V" } : Jvm.MethodName)) ∈ lw_all := lw_g (lw_at lw_m2 47 rfl) rfl
theorem q326 : (Jvm.Cond.code ({ cls := "java/util/Arrays", name := "fill", desc := "([JJ)V" } : Jvm.MethodName) prog_12_method_101_code (5 : Nat) (Option.none : Option Jvm.ClassFile.FieldType)) ∈ lw_all := lw_g (lw_at lw_m2 48 rfl) rfl
theorem q407 : (Jvm.Cond.static ({ cls := "java/util/Arrays", name := "sort", desc := "([III)V" } : Jvm.MethodName)) ∈ lw_all := lw_g (lw_at lw_m2 129 rfl) rfl
theorem q408 : (Jvm.Cond.code ({ cls := "java/util/Arrays", name := "sort", desc := "([III)V" } : Jvm.MethodName) prog_12_method_3_code (3 : Nat) (Option.none : Option Jvm.ClassFile.FieldType)) ∈ lw_all := lw_g (lw_at lw_m2 130 rfl) rfl
theorem q409 : (Jvm.Cond.methodLink "java/util/Arrays" (13 : Nat) ({ cls := "java/util/Arrays", name := "rangeCheck", desc := "(III)V" } : Jvm.MethodName)) ∈ lw_all := lw_g (lw_at lw_m2 131 rfl) rfl
theorem q410 : (Jvm.Cond.static ({ cls := "java/util/Arrays", name := "rangeCheck", desc := "(III)V" } : Jvm.MethodName)) ∈ lw_all := lw_g (lw_at lw_m2 132 rfl) rfl
theorem q411 : (Jvm.Cond.code ({ cls := "java/util/Arrays", name := "rangeCheck", desc := "(III)V" } : Jvm.MethodName) prog_12_method_30_code (3 : Nat) (Option.none : Option Jvm.ClassFile.FieldType)) ∈ lw_all := lw_g (lw_at lw_m2 133 rfl) rfl
theorem q412 : (Jvm.Cond.methodLink "java/util/Arrays" (7 : Nat) ({ cls := "java/util/DualPivotQuicksort", name := "sort", desc := "([IIII)V" } : Jvm.MethodName)) ∈ lw_all := lw_g (lw_at lw_m2 134 rfl) rfl
theorem q428 : (Jvm.Cond.static ({ cls := "java/util/Arrays", name := "copyOf", desc := "([II)[I" } : Jvm.MethodName)) ∈ lw_all := lw_g (lw_at lw_m2 150 rfl) rfl
theorem q429 : (Jvm.Cond.code ({ cls := "java/util/Arrays", name := "copyOf", desc := "([II)[I" } : Jvm.MethodName) prog_12_method_123_code (3 : Nat) (Option.some (Jvm.ClassFile.FieldType.array Jvm.ClassFile.FieldType.int))) ∈ lw_all := lw_g (lw_at lw_m2 151 rfl) rfl
theorem q430 : (Jvm.Cond.methodLink "java/util/Arrays" (316 : Nat) ({ cls := "[I", name := "clone", desc := "()Ljava/lang/Object;" } : Jvm.MethodName)) ∈ lw_all := lw_g (lw_at lw_m2 152 rfl) rfl
theorem q434 : (Jvm.Cond.classLink "java/util/Arrays" (317 : Nat) "[I") ∈ lw_all := lw_g (lw_at lw_m2 156 rfl) rfl
theorem q435 : (Jvm.Cond.methodLink "java/util/Arrays" (304 : Nat) ({ cls := "java/lang/Math", name := "min", desc := "(II)I" } : Jvm.MethodName)) ∈ lw_all := lw_g (lw_at lw_m2 157 rfl) rfl
theorem q436 : (Jvm.Cond.methodLink "java/util/Arrays" (150 : Nat) ({ cls := "java/lang/System", name := "arraycopy", desc := "(Ljava/lang/Object;ILjava/lang/Object;II)V" } : Jvm.MethodName)) ∈ lw_all := lw_g (lw_at lw_m2 158 rfl) rfl
theorem q487 : (Jvm.Cond.static ({ cls := "java/util/Arrays", name := "fill", desc := "([II)V" } : Jvm.MethodName)) ∈ lw_all := lw_g (lw_at lw_m2 209 rfl) rfl
theorem q488 : (Jvm.Cond.code ({ cls := "java/util/Arrays", name := "fill", desc := "([II)V" } : Jvm.MethodName) prog_12_method_103_code (4 : Nat) (Option.none : Option Jvm.ClassFile.FieldType)) ∈ lw_all := lw_g (lw_at lw_m2 210 rfl) rfl

/-! java/lang/Math -/
def RJ1 : String := "java/lang/Math"
abbrev cJ1_min : ByteArray := prog_10_method_69_code
def yJ1_min : MethodName := ⟨RJ1, "min", "(II)I"⟩
abbrev cJ1_max : ByteArray := prog_10_method_65_code
def yJ1_max : MethodName := ⟨RJ1, "max", "(II)I"⟩
theorem q46 : (Jvm.Cond.initialized "java/lang/Math") ∈ lw_all := lw_g (lw_at lw_m1 8 rfl) rfl
theorem q384 : (Jvm.Cond.static ({ cls := "java/lang/Math", name := "min", desc := "(II)I" } : Jvm.MethodName)) ∈ lw_all := lw_g (lw_at lw_m2 106 rfl) rfl
theorem q385 : (Jvm.Cond.code ({ cls := "java/lang/Math", name := "min", desc := "(II)I" } : Jvm.MethodName) prog_10_method_69_code (2 : Nat) (Option.some Jvm.ClassFile.FieldType.int)) ∈ lw_all := lw_g (lw_at lw_m2 107 rfl) rfl
theorem q387 : (Jvm.Cond.static ({ cls := "java/lang/Math", name := "max", desc := "(II)I" } : Jvm.MethodName)) ∈ lw_all := lw_g (lw_at lw_m2 109 rfl) rfl
theorem q388 : (Jvm.Cond.code ({ cls := "java/lang/Math", name := "max", desc := "(II)I" } : Jvm.MethodName) prog_10_method_65_code (2 : Nat) (Option.some Jvm.ClassFile.FieldType.int)) ∈ lw_all := lw_g (lw_at lw_m2 110 rfl) rfl

/-! java/util/DualPivotQuicksort -/
def RJ2 : String := "java/util/DualPivotQuicksort"
abbrev cJ2_sort : ByteArray := prog_13_method_3_code
def yJ2_sort : MethodName := ⟨RJ2, "sort", "([IIII)V"⟩
abbrev cJ2_sort_2 : ByteArray := prog_13_method_4_code
def yJ2_sort_2 : MethodName := ⟨RJ2, "sort", "(Ljava/util/DualPivotQuicksort$Sorter;[IIII)V"⟩
abbrev cJ2_mixedInsertionSort : ByteArray := prog_13_method_5_code
def yJ2_mixedInsertionSort : MethodName := ⟨RJ2, "mixedInsertionSort", "([IIII)V"⟩
abbrev cJ2_insertionSort : ByteArray := prog_13_method_6_code
def yJ2_insertionSort : MethodName := ⟨RJ2, "insertionSort", "([III)V"⟩
abbrev cJ2_tryMergeRuns : ByteArray := prog_13_method_9_code
def yJ2_tryMergeRuns : MethodName := ⟨RJ2, "tryMergeRuns", "(Ljava/util/DualPivotQuicksort$Sorter;[III)Z"⟩
abbrev cJ2_mergeRuns : ByteArray := prog_13_method_10_code
def yJ2_mergeRuns : MethodName := ⟨RJ2, "mergeRuns", "([I[IIIZ[III)[I"⟩
abbrev cJ2_mergeParts : ByteArray := prog_13_method_11_code
def yJ2_mergeParts : MethodName := ⟨RJ2, "mergeParts", "(Ljava/util/DualPivotQuicksort$Merger;[II[III[III)V"⟩
abbrev cJ2_heapSort : ByteArray := prog_13_method_7_code
def yJ2_heapSort : MethodName := ⟨RJ2, "heapSort", "([III)V"⟩
abbrev cJ2_pushDown : ByteArray := prog_13_method_8_code
def yJ2_pushDown : MethodName := ⟨RJ2, "pushDown", "([IIIII)V"⟩
theorem q48 : (Jvm.Cond.initialized "java/util/DualPivotQuicksort") ∈ lw_all := lw_g (lw_at lw_m1 10 rfl) rfl
theorem q413 : (Jvm.Cond.static ({ cls := "java/util/DualPivotQuicksort", name := "sort", desc := "([IIII)V" } : Jvm.MethodName)) ∈ lw_all := lw_g (lw_at lw_m2 135 rfl) rfl
theorem q414 : (Jvm.Cond.code ({ cls := "java/util/DualPivotQuicksort", name := "sort", desc := "([IIII)V" } : Jvm.MethodName) prog_13_method_3_code (7 : Nat) (Option.none : Option Jvm.ClassFile.FieldType)) ∈ lw_all := lw_g (lw_at lw_m2 136 rfl) rfl
theorem q415 : (Jvm.Cond.methodLink "java/util/DualPivotQuicksort" (26 : Nat) ({ cls := "java/util/DualPivotQuicksort", name := "sort", desc := "(Ljava/util/DualPivotQuicksort$Sorter;[IIII)V" } : Jvm.MethodName)) ∈ lw_all := lw_g (lw_at lw_m2 137 rfl) rfl
theorem q416 : (Jvm.Cond.static ({ cls := "java/util/DualPivotQuicksort", name := "sort", desc := "(Ljava/util/DualPivotQuicksort$Sorter;[IIII)V" } : Jvm.MethodName)) ∈ lw_all := lw_g (lw_at lw_m2 138 rfl) rfl
theorem q417 : (Jvm.Cond.code ({ cls := "java/util/DualPivotQuicksort", name := "sort", desc := "(Ljava/util/DualPivotQuicksort$Sorter;[IIII)V" } : Jvm.MethodName) prog_13_method_4_code (21 : Nat) (Option.none : Option Jvm.ClassFile.FieldType)) ∈ lw_all := lw_g (lw_at lw_m2 139 rfl) rfl
theorem q418 : (Jvm.Cond.methodLink "java/util/DualPivotQuicksort" (30 : Nat) ({ cls := "java/util/DualPivotQuicksort", name := "mixedInsertionSort", desc := "([IIII)V" } : Jvm.MethodName)) ∈ lw_all := lw_g (lw_at lw_m2 140 rfl) rfl
theorem q419 : (Jvm.Cond.static ({ cls := "java/util/DualPivotQuicksort", name := "mixedInsertionSort", desc := "([IIII)V" } : Jvm.MethodName)) ∈ lw_all := lw_g (lw_at lw_m2 141 rfl) rfl
theorem q420 : (Jvm.Cond.code ({ cls := "java/util/DualPivotQuicksort", name := "mixedInsertionSort", desc := "([IIII)V" } : Jvm.MethodName) prog_13_method_5_code (8 : Nat) (Option.none : Option Jvm.ClassFile.FieldType)) ∈ lw_all := lw_g (lw_at lw_m2 142 rfl) rfl
theorem q421 : (Jvm.Cond.methodLink "java/util/DualPivotQuicksort" (34 : Nat) ({ cls := "java/util/DualPivotQuicksort", name := "insertionSort", desc := "([III)V" } : Jvm.MethodName)) ∈ lw_all := lw_g (lw_at lw_m2 143 rfl) rfl
theorem q422 : (Jvm.Cond.static ({ cls := "java/util/DualPivotQuicksort", name := "insertionSort", desc := "([III)V" } : Jvm.MethodName)) ∈ lw_all := lw_g (lw_at lw_m2 144 rfl) rfl
theorem q423 : (Jvm.Cond.code ({ cls := "java/util/DualPivotQuicksort", name := "insertionSort", desc := "([III)V" } : Jvm.MethodName) prog_13_method_6_code (6 : Nat) (Option.none : Option Jvm.ClassFile.FieldType)) ∈ lw_all := lw_g (lw_at lw_m2 145 rfl) rfl
theorem q424 : (Jvm.Cond.methodLink "java/util/DualPivotQuicksort" (38 : Nat) ({ cls := "java/util/DualPivotQuicksort", name := "tryMergeRuns", desc := "(Ljava/util/DualPivotQuicksort$Sorter;[III)Z" } : Jvm.MethodName)) ∈ lw_all := lw_g (lw_at lw_m2 146 rfl) rfl
theorem q425 : (Jvm.Cond.static ({ cls := "java/util/DualPivotQuicksort", name := "tryMergeRuns", desc := "(Ljava/util/DualPivotQuicksort$Sorter;[III)Z" } : Jvm.MethodName)) ∈ lw_all := lw_g (lw_at lw_m2 147 rfl) rfl
theorem q426 : (Jvm.Cond.code ({ cls := "java/util/DualPivotQuicksort", name := "tryMergeRuns", desc := "(Ljava/util/DualPivotQuicksort$Sorter;[III)Z" } : Jvm.MethodName) prog_13_method_9_code (12 : Nat) (Option.some Jvm.ClassFile.FieldType.boolean)) ∈ lw_all := lw_g (lw_at lw_m2 148 rfl) rfl
theorem q427 : (Jvm.Cond.methodLink "java/util/DualPivotQuicksort" (53 : Nat) ({ cls := "java/util/Arrays", name := "copyOf", desc := "([II)[I" } : Jvm.MethodName)) ∈ lw_all := lw_g (lw_at lw_m2 149 rfl) rfl
theorem q437 : (Jvm.Cond.classLink "java/util/DualPivotQuicksort" (63 : Nat) "[I") ∈ lw_all := lw_g (lw_at lw_m2 159 rfl) rfl
theorem q438 : (Jvm.Cond.methodLink "java/util/DualPivotQuicksort" (69 : Nat) ({ cls := "java/util/DualPivotQuicksort", name := "mergeRuns", desc := "([I[IIIZ[III)[I" } : Jvm.MethodName)) ∈ lw_all := lw_g (lw_at lw_m2 160 rfl) rfl
theorem q439 : (Jvm.Cond.static ({ cls := "java/util/DualPivotQuicksort", name := "mergeRuns", desc := "([I[IIIZ[III)[I" } : Jvm.MethodName)) ∈ lw_all := lw_g (lw_at lw_m2 161 rfl) rfl
theorem q440 : (Jvm.Cond.code ({ cls := "java/util/DualPivotQuicksort", name := "mergeRuns", desc := "([I[IIIZ[III)[I" } : Jvm.MethodName) prog_13_method_10_code (18 : Nat) (Option.some (Jvm.ClassFile.FieldType.array Jvm.ClassFile.FieldType.int))) ∈ lw_all := lw_g (lw_at lw_m2 162 rfl) rfl
theorem q441 : (Jvm.Cond.methodLink "java/util/DualPivotQuicksort" (91 : Nat) ({ cls := "java/util/DualPivotQuicksort", name := "mergeParts", desc := "(Ljava/util/DualPivotQuicksort$Merger;[II[III[III)V" } : Jvm.MethodName)) ∈ lw_all := lw_g (lw_at lw_m2 163 rfl) rfl
theorem q442 : (Jvm.Cond.static ({ cls := "java/util/DualPivotQuicksort", name := "mergeParts", desc := "(Ljava/util/DualPivotQuicksort$Merger;[II[III[III)V" } : Jvm.MethodName)) ∈ lw_all := lw_g (lw_at lw_m2 164 rfl) rfl
theorem q443 : (Jvm.Cond.code ({ cls := "java/util/DualPivotQuicksort", name := "mergeParts", desc := "(Ljava/util/DualPivotQuicksort$Merger;[II[III[III)V" } : Jvm.MethodName) prog_13_method_11_code (14 : Nat) (Option.none : Option Jvm.ClassFile.FieldType)) ∈ lw_all := lw_g (lw_at lw_m2 165 rfl) rfl
theorem q444 : (Jvm.Cond.methodLink "java/util/DualPivotQuicksort" (42 : Nat) ({ cls := "java/util/DualPivotQuicksort", name := "heapSort", desc := "([III)V" } : Jvm.MethodName)) ∈ lw_all := lw_g (lw_at lw_m2 166 rfl) rfl
theorem q445 : (Jvm.Cond.static ({ cls := "java/util/DualPivotQuicksort", name := "heapSort", desc := "([III)V" } : Jvm.MethodName)) ∈ lw_all := lw_g (lw_at lw_m2 167 rfl) rfl
theorem q446 : (Jvm.Cond.code ({ cls := "java/util/DualPivotQuicksort", name := "heapSort", desc := "([III)V" } : Jvm.MethodName) prog_13_method_7_code (4 : Nat) (Option.none : Option Jvm.ClassFile.FieldType)) ∈ lw_all := lw_g (lw_at lw_m2 168 rfl) rfl
theorem q447 : (Jvm.Cond.methodLink "java/util/DualPivotQuicksort" (49 : Nat) ({ cls := "java/util/DualPivotQuicksort", name := "pushDown", desc := "([IIIII)V" } : Jvm.MethodName)) ∈ lw_all := lw_g (lw_at lw_m2 169 rfl) rfl
theorem q448 : (Jvm.Cond.static ({ cls := "java/util/DualPivotQuicksort", name := "pushDown", desc := "([IIIII)V" } : Jvm.MethodName)) ∈ lw_all := lw_g (lw_at lw_m2 170 rfl) rfl
theorem q449 : (Jvm.Cond.code ({ cls := "java/util/DualPivotQuicksort", name := "pushDown", desc := "([IIIII)V" } : Jvm.MethodName) prog_13_method_8_code (6 : Nat) (Option.none : Option Jvm.ClassFile.FieldType)) ∈ lw_all := lw_g (lw_at lw_m2 171 rfl) rfl

/-! java/lang/Integer -/
def RJ3 : String := "java/lang/Integer"
abbrev cJ3_bitCount : ByteArray := prog_9_method_49_code
def yJ3_bitCount : MethodName := ⟨RJ3, "bitCount", "(I)I"⟩
theorem q49 : (Jvm.Cond.initialized "java/lang/Integer") ∈ lw_all := lw_g (lw_at lw_m1 11 rfl) rfl
theorem q506 : (Jvm.Cond.static ({ cls := "java/lang/Integer", name := "bitCount", desc := "(I)I" } : Jvm.MethodName)) ∈ lw_all := lw_g (lw_at lw_m2 228 rfl) rfl
theorem q507 : (Jvm.Cond.code ({ cls := "java/lang/Integer", name := "bitCount", desc := "(I)I" } : Jvm.MethodName) prog_9_method_49_code (1 : Nat) (Option.some Jvm.ClassFile.FieldType.int)) ∈ lw_all := lw_g (lw_at lw_m2 229 rfl) rfl
theorem q508 : (Jvm.Cond.constant "java/lang/Integer" (265 : Nat) (1431655765 : Int32)) ∈ lw_all := lw_g (lw_at lw_m2 230 rfl) rfl
theorem q509 : (Jvm.Cond.constant "java/lang/Integer" (266 : Nat) (858993459 : Int32)) ∈ lw_all := lw_g (lw_at lw_m2 231 rfl) rfl
theorem q510 : (Jvm.Cond.constant "java/lang/Integer" (267 : Nat) (252645135 : Int32)) ∈ lw_all := lw_g (lw_at lw_m2 232 rfl) rfl

/-! java/lang/Object -/
def RJ4 : String := "java/lang/Object"
abbrev cJ4_init : ByteArray := object_method_1_code
def yJ4_init : MethodName := ⟨RJ4, "<init>", "()V"⟩
theorem q56 : (Jvm.Cond.instanceMethod ({ cls := "java/lang/Object", name := "<init>", desc := "()V" } : Jvm.MethodName)) ∈ lw_all := lw_g (lw_at lw_m1 18 rfl) rfl
theorem q57 : (Jvm.Cond.code ({ cls := "java/lang/Object", name := "<init>", desc := "()V" } : Jvm.MethodName) object_method_1_code (1 : Nat) (Option.none : Option Jvm.ClassFile.FieldType)) ∈ lw_all := lw_g (lw_at lw_m1 19 rfl) rfl
theorem q65 : (Jvm.Cond.native ({ cls := "java/lang/Object", name := "clone", desc := "()Ljava/lang/Object;" } : Jvm.MethodName)) ∈ lw_all := lw_g (lw_at lw_m1 27 rfl) rfl
theorem q66 : (Jvm.Cond.instanceMethod ({ cls := "java/lang/Object", name := "clone", desc := "()Ljava/lang/Object;" } : Jvm.MethodName)) ∈ lw_all := lw_g (lw_at lw_m1 28 rfl) rfl

/-! the law's own entry -/
abbrev cL_law : ByteArray := code

theorem q38 : (Jvm.Cond.initialized "NetSearchLaw") ∈ lw_all := lw_g (lw_at lw_m1 0 rfl) rfl
theorem q50 : (Jvm.Cond.classLink "NetSearchLaw" (7 : Nat) "NetSearch") ∈ lw_all := lw_g (lw_at lw_m1 12 rfl) rfl
theorem q52 : (Jvm.Cond.methodLink "NetSearchLaw" (9 : Nat) ({ cls := "NetSearch", name := "<init>", desc := "()V" } : Jvm.MethodName)) ∈ lw_all := lw_g (lw_at lw_m1 14 rfl) rfl
theorem q290 : (Jvm.Cond.methodLink "NetSearchLaw" (13 : Nat) ({ cls := "NetSearch", name := "cube", desc := "(III)I" } : Jvm.MethodName)) ∈ lw_all := lw_g (lw_at lw_m2 12 rfl) rfl
theorem q297 : (Jvm.Cond.methodLink "NetSearchLaw" (18 : Nat) ({ cls := "NetSearch", name := "clear", desc := "()I" } : Jvm.MethodName)) ∈ lw_all := lw_g (lw_at lw_m2 19 rfl) rfl
theorem q301 : (Jvm.Cond.methodLink "NetSearchLaw" (27 : Nat) ({ cls := "NetSearch", name := "face", desc := "(II)I" } : Jvm.MethodName)) ∈ lw_all := lw_g (lw_at lw_m2 23 rfl) rfl
theorem q309 : (Jvm.Cond.methodLink "NetSearchLaw" (32 : Nat) ({ cls := "NetSearch", name := "across", desc := "(II)I" } : Jvm.MethodName)) ∈ lw_all := lw_g (lw_at lw_m2 31 rfl) rfl
theorem q313 : (Jvm.Cond.methodLink "NetSearchLaw" (36 : Nat) ({ cls := "NetSearch", name := "trees", desc := "()J" } : Jvm.MethodName)) ∈ lw_all := lw_g (lw_at lw_m2 35 rfl) rfl
theorem q332 : (Jvm.Cond.methodLink "NetSearchLaw" (41 : Nat) ({ cls := "NetSearch", name := "lay", desc := "(I)I" } : Jvm.MethodName)) ∈ lw_all := lw_g (lw_at lw_m2 54 rfl) rfl
theorem q336 : (Jvm.Cond.methodLink "NetSearchLaw" (46 : Nat) ({ cls := "NetSearch", name := "grow", desc := "(II)I" } : Jvm.MethodName)) ∈ lw_all := lw_g (lw_at lw_m2 58 rfl) rfl
theorem q371 : (Jvm.Cond.methodLink "NetSearchLaw" (50 : Nat) ({ cls := "NetSearch", name := "paper", desc := "(II)I" } : Jvm.MethodName)) ∈ lw_all := lw_g (lw_at lw_m2 93 rfl) rfl
theorem q375 : (Jvm.Cond.methodLink "NetSearchLaw" (54 : Nat) ({ cls := "NetSearch", name := "run", desc := "(I)I" } : Jvm.MethodName)) ∈ lw_all := lw_g (lw_at lw_m2 97 rfl) rfl
theorem q458 : (Jvm.Cond.methodLink "NetSearchLaw" (23 : Nat) ({ cls := "NetSearch", name := "forget", desc := "()I" } : Jvm.MethodName)) ∈ lw_all := lw_g (lw_at lw_m2 180 rfl) rfl
theorem q462 : (Jvm.Cond.methodLink "NetSearchLaw" (58 : Nat) ({ cls := "NetSearch", name := "told", desc := "(I)I" } : Jvm.MethodName)) ∈ lw_all := lw_g (lw_at lw_m2 184 rfl) rfl
theorem q466 : (Jvm.Cond.methodLink "NetSearchLaw" (62 : Nat) ({ cls := "NetSearch", name := "best", desc := "(II)I" } : Jvm.MethodName)) ∈ lw_all := lw_g (lw_at lw_m2 188 rfl) rfl
theorem q470 : (Jvm.Cond.methodLink "NetSearchLaw" (70 : Nat) ({ cls := "NetSearch", name := "size", desc := "(I)I" } : Jvm.MethodName)) ∈ lw_all := lw_g (lw_at lw_m2 192 rfl) rfl
theorem q474 : (Jvm.Cond.methodLink "NetSearchLaw" (66 : Nat) ({ cls := "NetSearch", name := "shape", desc := "(III)I" } : Jvm.MethodName)) ∈ lw_all := lw_g (lw_at lw_m2 196 rfl) rfl
theorem q478 : (Jvm.Cond.methodLink "NetSearchLaw" (74 : Nat) ({ cls := "NetSearch", name := "wraps", desc := "(I)I" } : Jvm.MethodName)) ∈ lw_all := lw_g (lw_at lw_m2 200 rfl) rfl
theorem q511 : (Jvm.Cond.classLink "NetSearchLaw" (10 : Nat) "NetSearchModel") ∈ lw_all := lw_g (lw_at lw_m2 233 rfl) rfl
theorem q513 : (Jvm.Cond.methodLink "NetSearchLaw" (12 : Nat) ({ cls := "NetSearchModel", name := "<init>", desc := "()V" } : Jvm.MethodName)) ∈ lw_all := lw_g (lw_at lw_m2 235 rfl) rfl
theorem q693 : (Jvm.Cond.methodLink "NetSearchLaw" (17 : Nat) ({ cls := "NetSearchModel", name := "cube", desc := "(III)I" } : Jvm.MethodName)) ∈ lw_all := lw_g (lw_at lw_m3 175 rfl) rfl
theorem q697 : (Jvm.Cond.methodLink "NetSearchLaw" (22 : Nat) ({ cls := "NetSearchModel", name := "clear", desc := "()I" } : Jvm.MethodName)) ∈ lw_all := lw_g (lw_at lw_m3 179 rfl) rfl
theorem q701 : (Jvm.Cond.methodLink "NetSearchLaw" (26 : Nat) ({ cls := "NetSearchModel", name := "forget", desc := "()I" } : Jvm.MethodName)) ∈ lw_all := lw_g (lw_at lw_m3 183 rfl) rfl
theorem q705 : (Jvm.Cond.methodLink "NetSearchLaw" (31 : Nat) ({ cls := "NetSearchModel", name := "face", desc := "(II)I" } : Jvm.MethodName)) ∈ lw_all := lw_g (lw_at lw_m3 187 rfl) rfl
theorem q713 : (Jvm.Cond.methodLink "NetSearchLaw" (35 : Nat) ({ cls := "NetSearchModel", name := "across", desc := "(II)I" } : Jvm.MethodName)) ∈ lw_all := lw_g (lw_at lw_m3 195 rfl) rfl
theorem q721 : (Jvm.Cond.methodLink "NetSearchLaw" (40 : Nat) ({ cls := "NetSearchModel", name := "trees", desc := "()J" } : Jvm.MethodName)) ∈ lw_all := lw_g (lw_at lw_m3 203 rfl) rfl
theorem q736 : (Jvm.Cond.methodLink "NetSearchLaw" (45 : Nat) ({ cls := "NetSearchModel", name := "lay", desc := "(I)I" } : Jvm.MethodName)) ∈ lw_all := lw_g (lw_at lw_m3 218 rfl) rfl
theorem q740 : (Jvm.Cond.methodLink "NetSearchLaw" (49 : Nat) ({ cls := "NetSearchModel", name := "grow", desc := "(II)I" } : Jvm.MethodName)) ∈ lw_all := lw_g (lw_at lw_m3 222 rfl) rfl
theorem q765 : (Jvm.Cond.methodLink "NetSearchLaw" (53 : Nat) ({ cls := "NetSearchModel", name := "paper", desc := "(II)I" } : Jvm.MethodName)) ∈ lw_all := lw_g (lw_at lw_m4 7 rfl) rfl
theorem q769 : (Jvm.Cond.methodLink "NetSearchLaw" (57 : Nat) ({ cls := "NetSearchModel", name := "run", desc := "(I)I" } : Jvm.MethodName)) ∈ lw_all := lw_g (lw_at lw_m4 11 rfl) rfl
theorem q799 : (Jvm.Cond.methodLink "NetSearchLaw" (61 : Nat) ({ cls := "NetSearchModel", name := "told", desc := "(I)I" } : Jvm.MethodName)) ∈ lw_all := lw_g (lw_at lw_m4 41 rfl) rfl
theorem q803 : (Jvm.Cond.methodLink "NetSearchLaw" (65 : Nat) ({ cls := "NetSearchModel", name := "best", desc := "(II)I" } : Jvm.MethodName)) ∈ lw_all := lw_g (lw_at lw_m4 45 rfl) rfl
theorem q807 : (Jvm.Cond.methodLink "NetSearchLaw" (69 : Nat) ({ cls := "NetSearchModel", name := "shape", desc := "(III)I" } : Jvm.MethodName)) ∈ lw_all := lw_g (lw_at lw_m4 49 rfl) rfl
theorem q815 : (Jvm.Cond.methodLink "NetSearchLaw" (73 : Nat) ({ cls := "NetSearchModel", name := "size", desc := "(I)I" } : Jvm.MethodName)) ∈ lw_all := lw_g (lw_at lw_m4 57 rfl) rfl
theorem q819 : (Jvm.Cond.methodLink "NetSearchLaw" (77 : Nat) ({ cls := "NetSearchModel", name := "wraps", desc := "(I)I" } : Jvm.MethodName)) ∈ lw_all := lw_g (lw_at lw_m4 61 rfl) rfl

theorem q431 : (Jvm.Cond.sameMethod "[I" "java/lang/Object" "clone" "()Ljava/lang/Object;") ∈ lw_all := lw_g (lw_at lw_m2 153 rfl) rfl
theorem q432 : (Jvm.Cond.selects "[I" ({ cls := "[I", name := "clone", desc := "()Ljava/lang/Object;" } : Jvm.MethodName) ({ cls := "java/lang/Object", name := "clone", desc := "()Ljava/lang/Object;" } : Jvm.MethodName)) ∈ lw_all := lw_g (lw_at lw_m2 154 rfl) rfl
theorem q433 : (Jvm.Cond.castable "[I" "java/lang/Cloneable") ∈ lw_tbl := lw_at lw_m2 155 rfl

theorem q64 : (Jvm.Cond.sameMethod "[LNetSearch$Way;" "java/lang/Object" "clone" "()Ljava/lang/Object;") ∈ lw_all := lw_g (lw_at lw_m1 26 rfl) rfl
theorem q67 : (Jvm.Cond.selects "[LNetSearch$Way;" ({ cls := "[LNetSearch$Way;", name := "clone", desc := "()Ljava/lang/Object;" } : Jvm.MethodName) ({ cls := "java/lang/Object", name := "clone", desc := "()Ljava/lang/Object;" } : Jvm.MethodName)) ∈ lw_all := lw_g (lw_at lw_m1 29 rfl) rfl
theorem q68 : (Jvm.Cond.castable "[LNetSearch$Way;" "java/lang/Cloneable") ∈ lw_tbl := lw_at lw_m1 30 rfl

theorem q40 : (Jvm.Cond.initialized "java/lang/Enum") ∈ lw_all := lw_g (lw_at lw_m1 2 rfl) rfl

theorem q47 : (Jvm.Cond.initialized "java/lang/System") ∈ lw_all := lw_g (lw_at lw_m1 9 rfl) rfl
theorem q390 : (Jvm.Cond.static ({ cls := "java/lang/System", name := "arraycopy", desc := "(Ljava/lang/Object;ILjava/lang/Object;II)V" } : Jvm.MethodName)) ∈ lw_all := lw_g (lw_at lw_m2 112 rfl) rfl
theorem q391 : (Jvm.Cond.native ({ cls := "java/lang/System", name := "arraycopy", desc := "(Ljava/lang/Object;ILjava/lang/Object;II)V" } : Jvm.MethodName)) ∈ lw_all := lw_g (lw_at lw_m2 113 rfl) rfl

theorem q69 : (Jvm.Cond.arrayOver (Jvm.ClassFile.FieldType.object "NetSearch$Way")) ∈ lw_tbl := lw_at lw_m1 31 rfl
theorem q72 : (Jvm.Cond.arrayOver (Jvm.ClassFile.FieldType.object "NetSearch$Face")) ∈ lw_tbl := lw_at lw_m1 34 rfl
theorem q74 : (Jvm.Cond.arrayOver (Jvm.ClassFile.FieldType.array Jvm.ClassFile.FieldType.long)) ∈ lw_tbl := lw_at lw_m1 36 rfl
theorem q122 : (Jvm.Cond.arrayClass Jvm.ClassFile.FieldType.int) ∈ lw_all := lw_g (lw_at lw_m1 84 rfl) rfl
theorem q123 : (Jvm.Cond.arrayClass Jvm.ClassFile.FieldType.long) ∈ lw_all := lw_g (lw_at lw_m1 85 rfl) rfl
theorem q124 : (Jvm.Cond.arrayClass Jvm.ClassFile.FieldType.boolean) ∈ lw_all := lw_g (lw_at lw_m1 86 rfl) rfl
theorem q126 : (Jvm.Cond.arrayOver (Jvm.ClassFile.FieldType.array Jvm.ClassFile.FieldType.int)) ∈ lw_tbl := lw_at lw_m1 88 rfl
end
section
set_option maxRecDepth 100000
theorem dX0_init_0 : decode cX0_init 0 = .ok (.aload_n 0, 1) := by decide +kernel
theorem dX0_init_1 : decode cX0_init 1 = .ok (.invokespecial 1, 3) := by decide +kernel
theorem dX0_init_4 : decode cX0_init 4 = .ok (.aload_n 0, 1) := by decide +kernel
theorem dX0_init_5 : decode cX0_init 5 = .ok (.invokestatic 7, 3) := by decide +kernel
theorem dX0_init_8 : decode cX0_init 8 = .ok (.putfield 13, 3) := by decide +kernel
theorem dX0_init_11 : decode cX0_init 11 = .ok (.aload_n 0, 1) := by decide +kernel
theorem dX0_init_12 : decode cX0_init 12 = .ok (.bipush 6, 2) := by decide +kernel
theorem dX0_init_14 : decode cX0_init 14 = .ok (.newarray .int, 2) := by decide +kernel
theorem dX0_init_16 : decode cX0_init 16 = .ok (.dup, 1) := by decide +kernel
theorem dX0_init_17 : decode cX0_init 17 = .ok (.iconst 0, 1) := by decide +kernel
theorem dX0_init_18 : decode cX0_init 18 = .ok (.iconst 2, 1) := by decide +kernel
theorem dX0_init_19 : decode cX0_init 19 = .ok (.iastore, 1) := by decide +kernel
theorem dX0_init_20 : decode cX0_init 20 = .ok (.dup, 1) := by decide +kernel
theorem dX0_init_21 : decode cX0_init 21 = .ok (.iconst 1, 1) := by decide +kernel
theorem dX0_init_22 : decode cX0_init 22 = .ok (.iconst 4, 1) := by decide +kernel
theorem dX0_init_23 : decode cX0_init 23 = .ok (.iastore, 1) := by decide +kernel
theorem dX0_init_24 : decode cX0_init 24 = .ok (.dup, 1) := by decide +kernel
theorem dX0_init_25 : decode cX0_init 25 = .ok (.iconst 2, 1) := by decide +kernel
theorem dX0_init_26 : decode cX0_init 26 = .ok (.iconst 4, 1) := by decide +kernel
theorem dX0_init_27 : decode cX0_init 27 = .ok (.iastore, 1) := by decide +kernel
theorem dX0_init_28 : decode cX0_init 28 = .ok (.dup, 1) := by decide +kernel
theorem dX0_init_29 : decode cX0_init 29 = .ok (.iconst 3, 1) := by decide +kernel
theorem dX0_init_30 : decode cX0_init 30 = .ok (.iconst 0, 1) := by decide +kernel
theorem dX0_init_31 : decode cX0_init 31 = .ok (.iastore, 1) := by decide +kernel
theorem dX0_init_32 : decode cX0_init 32 = .ok (.dup, 1) := by decide +kernel
theorem dX0_init_33 : decode cX0_init 33 = .ok (.iconst 4, 1) := by decide +kernel
theorem dX0_init_34 : decode cX0_init 34 = .ok (.iconst 0, 1) := by decide +kernel
theorem dX0_init_35 : decode cX0_init 35 = .ok (.iastore, 1) := by decide +kernel
theorem dX0_init_36 : decode cX0_init 36 = .ok (.dup, 1) := by decide +kernel
theorem dX0_init_37 : decode cX0_init 37 = .ok (.iconst 5, 1) := by decide +kernel
theorem dX0_init_38 : decode cX0_init 38 = .ok (.iconst 2, 1) := by decide +kernel
theorem dX0_init_39 : decode cX0_init 39 = .ok (.iastore, 1) := by decide +kernel
theorem dX0_init_40 : decode cX0_init 40 = .ok (.putfield 19, 3) := by decide +kernel
theorem dX0_init_43 : decode cX0_init 43 = .ok (.aload_n 0, 1) := by decide +kernel
theorem dX0_init_44 : decode cX0_init 44 = .ok (.bipush 6, 2) := by decide +kernel
theorem dX0_init_46 : decode cX0_init 46 = .ok (.newarray .int, 2) := by decide +kernel
theorem dX0_init_48 : decode cX0_init 48 = .ok (.dup, 1) := by decide +kernel
theorem dX0_init_49 : decode cX0_init 49 = .ok (.iconst 0, 1) := by decide +kernel
theorem dX0_init_50 : decode cX0_init 50 = .ok (.iconst 4, 1) := by decide +kernel
theorem dX0_init_51 : decode cX0_init 51 = .ok (.iastore, 1) := by decide +kernel
theorem dX0_init_52 : decode cX0_init 52 = .ok (.dup, 1) := by decide +kernel
theorem dX0_init_53 : decode cX0_init 53 = .ok (.iconst 1, 1) := by decide +kernel
theorem dX0_init_54 : decode cX0_init 54 = .ok (.iconst 2, 1) := by decide +kernel
theorem dX0_init_55 : decode cX0_init 55 = .ok (.iastore, 1) := by decide +kernel
theorem dX0_init_56 : decode cX0_init 56 = .ok (.dup, 1) := by decide +kernel
theorem dX0_init_57 : decode cX0_init 57 = .ok (.iconst 2, 1) := by decide +kernel
theorem dX0_init_58 : decode cX0_init 58 = .ok (.iconst 0, 1) := by decide +kernel
theorem dX0_init_59 : decode cX0_init 59 = .ok (.iastore, 1) := by decide +kernel
theorem dX0_init_60 : decode cX0_init 60 = .ok (.dup, 1) := by decide +kernel
theorem dX0_init_61 : decode cX0_init 61 = .ok (.iconst 3, 1) := by decide +kernel
theorem dX0_init_62 : decode cX0_init 62 = .ok (.iconst 4, 1) := by decide +kernel
theorem dX0_init_63 : decode cX0_init 63 = .ok (.iastore, 1) := by decide +kernel
theorem dX0_init_64 : decode cX0_init 64 = .ok (.dup, 1) := by decide +kernel
theorem dX0_init_65 : decode cX0_init 65 = .ok (.iconst 4, 1) := by decide +kernel
theorem dX0_init_66 : decode cX0_init 66 = .ok (.iconst 2, 1) := by decide +kernel
theorem dX0_init_67 : decode cX0_init 67 = .ok (.iastore, 1) := by decide +kernel
theorem dX0_init_68 : decode cX0_init 68 = .ok (.dup, 1) := by decide +kernel
theorem dX0_init_69 : decode cX0_init 69 = .ok (.iconst 5, 1) := by decide +kernel
theorem dX0_init_70 : decode cX0_init 70 = .ok (.iconst 0, 1) := by decide +kernel
theorem dX0_init_71 : decode cX0_init 71 = .ok (.iastore, 1) := by decide +kernel
theorem dX0_init_72 : decode cX0_init 72 = .ok (.putfield 23, 3) := by decide +kernel
theorem dX0_init_75 : decode cX0_init 75 = .ok (.aload_n 0, 1) := by decide +kernel
theorem dX0_init_76 : decode cX0_init 76 = .ok (.iconst 5, 1) := by decide +kernel
theorem dX0_init_77 : decode cX0_init 77 = .ok (.newarray .int, 2) := by decide +kernel
theorem dX0_init_79 : decode cX0_init 79 = .ok (.putfield 26, 3) := by decide +kernel
theorem dX0_init_82 : decode cX0_init 82 = .ok (.aload_n 0, 1) := by decide +kernel
theorem dX0_init_83 : decode cX0_init 83 = .ok (.iconst 5, 1) := by decide +kernel
theorem dX0_init_84 : decode cX0_init 84 = .ok (.newarray .int, 2) := by decide +kernel
theorem dX0_init_86 : decode cX0_init 86 = .ok (.putfield 29, 3) := by decide +kernel
theorem dX0_init_89 : decode cX0_init 89 = .ok (.aload_n 0, 1) := by decide +kernel
theorem dX0_init_90 : decode cX0_init 90 = .ok (.iconst 5, 1) := by decide +kernel
theorem dX0_init_91 : decode cX0_init 91 = .ok (.newarray .int, 2) := by decide +kernel
theorem dX0_init_93 : decode cX0_init 93 = .ok (.putfield 32, 3) := by decide +kernel
theorem dX0_init_96 : decode cX0_init 96 = .ok (.aload_n 0, 1) := by decide +kernel
theorem dX0_init_97 : decode cX0_init 97 = .ok (.bipush 22, 2) := by decide +kernel
theorem dX0_init_99 : decode cX0_init 99 = .ok (.anewarray 35, 3) := by decide +kernel
theorem dX0_init_102 : decode cX0_init 102 = .ok (.putfield 37, 3) := by decide +kernel
theorem dX0_init_105 : decode cX0_init 105 = .ok (.aload_n 0, 1) := by decide +kernel
theorem dX0_init_106 : decode cX0_init 106 = .ok (.bipush 22, 2) := by decide +kernel
theorem dX0_init_108 : decode cX0_init 108 = .ok (.bipush 22, 2) := by decide +kernel
theorem dX0_init_110 : decode cX0_init 110 = .ok (.multianewarray 41 2, 4) := by decide +kernel
theorem dX0_init_114 : decode cX0_init 114 = .ok (.putfield 43, 3) := by decide +kernel
theorem dX0_init_117 : decode cX0_init 117 = .ok (.aload_n 0, 1) := by decide +kernel
theorem dX0_init_118 : decode cX0_init 118 = .ok (.new 46, 3) := by decide +kernel
theorem dX0_init_121 : decode cX0_init 121 = .ok (.dup, 1) := by decide +kernel
theorem dX0_init_122 : decode cX0_init 122 = .ok (.aload_n 0, 1) := by decide +kernel
theorem dX0_init_123 : decode cX0_init 123 = .ok (.getfield 37, 3) := by decide +kernel
theorem dX0_init_126 : decode cX0_init 126 = .ok (.aload_n 0, 1) := by decide +kernel
theorem dX0_init_127 : decode cX0_init 127 = .ok (.getfield 19, 3) := by decide +kernel
theorem dX0_init_130 : decode cX0_init 130 = .ok (.aload_n 0, 1) := by decide +kernel
theorem dX0_init_131 : decode cX0_init 131 = .ok (.getfield 23, 3) := by decide +kernel
theorem dX0_init_134 : decode cX0_init 134 = .ok (.invokespecial 48, 3) := by decide +kernel
theorem dX0_init_137 : decode cX0_init 137 = .ok (.putfield 51, 3) := by decide +kernel
theorem dX0_init_140 : decode cX0_init 140 = .ok (.aload_n 0, 1) := by decide +kernel
theorem dX0_init_141 : decode cX0_init 141 = .ok (.new 46, 3) := by decide +kernel
theorem dX0_init_144 : decode cX0_init 144 = .ok (.dup, 1) := by decide +kernel
theorem dX0_init_145 : decode cX0_init 145 = .ok (.aload_n 0, 1) := by decide +kernel
theorem dX0_init_146 : decode cX0_init 146 = .ok (.getfield 37, 3) := by decide +kernel
theorem dX0_init_149 : decode cX0_init 149 = .ok (.aload_n 0, 1) := by decide +kernel
theorem dX0_init_150 : decode cX0_init 150 = .ok (.getfield 19, 3) := by decide +kernel
theorem dX0_init_153 : decode cX0_init 153 = .ok (.aload_n 0, 1) := by decide +kernel
theorem dX0_init_154 : decode cX0_init 154 = .ok (.getfield 23, 3) := by decide +kernel
theorem dX0_init_157 : decode cX0_init 157 = .ok (.invokespecial 48, 3) := by decide +kernel
theorem dX0_init_160 : decode cX0_init 160 = .ok (.putfield 55, 3) := by decide +kernel
theorem dX0_init_163 : decode cX0_init 163 = .ok (.aload_n 0, 1) := by decide +kernel
theorem dX0_init_164 : decode cX0_init 164 = .ok (.bipush 22, 2) := by decide +kernel
theorem dX0_init_166 : decode cX0_init 166 = .ok (.newarray .int, 2) := by decide +kernel
theorem dX0_init_168 : decode cX0_init 168 = .ok (.putfield 58, 3) := by decide +kernel
theorem dX0_init_171 : decode cX0_init 171 = .ok (.aload_n 0, 1) := by decide +kernel
theorem dX0_init_172 : decode cX0_init 172 = .ok (.bipush 22, 2) := by decide +kernel
theorem dX0_init_174 : decode cX0_init 174 = .ok (.newarray .int, 2) := by decide +kernel
theorem dX0_init_176 : decode cX0_init 176 = .ok (.putfield 61, 3) := by decide +kernel
theorem dX0_init_179 : decode cX0_init 179 = .ok (.aload_n 0, 1) := by decide +kernel
theorem dX0_init_180 : decode cX0_init 180 = .ok (.bipush 22, 2) := by decide +kernel
theorem dX0_init_182 : decode cX0_init 182 = .ok (.newarray .int, 2) := by decide +kernel
theorem dX0_init_184 : decode cX0_init 184 = .ok (.putfield 64, 3) := by decide +kernel
theorem dX0_init_187 : decode cX0_init 187 = .ok (.aload_n 0, 1) := by decide +kernel
theorem dX0_init_188 : decode cX0_init 188 = .ok (.bipush 64, 2) := by decide +kernel
theorem dX0_init_190 : decode cX0_init 190 = .ok (.anewarray 67, 3) := by decide +kernel
theorem dX0_init_193 : decode cX0_init 193 = .ok (.putfield 68, 3) := by decide +kernel
theorem dX0_init_196 : decode cX0_init 196 = .ok (.aload_n 0, 1) := by decide +kernel
theorem dX0_init_197 : decode cX0_init 197 = .ok (.bipush 64, 2) := by decide +kernel
theorem dX0_init_199 : decode cX0_init 199 = .ok (.newarray .int, 2) := by decide +kernel
theorem dX0_init_201 : decode cX0_init 201 = .ok (.putfield 72, 3) := by decide +kernel
theorem dX0_init_204 : decode cX0_init 204 = .ok (.aload_n 0, 1) := by decide +kernel
theorem dX0_init_205 : decode cX0_init 205 = .ok (.bipush 22, 2) := by decide +kernel
theorem dX0_init_207 : decode cX0_init 207 = .ok (.newarray .int, 2) := by decide +kernel
theorem dX0_init_209 : decode cX0_init 209 = .ok (.putfield 75, 3) := by decide +kernel
theorem dX0_init_212 : decode cX0_init 212 = .ok (.aload_n 0, 1) := by decide +kernel
theorem dX0_init_213 : decode cX0_init 213 = .ok (.bipush 22, 2) := by decide +kernel
theorem dX0_init_215 : decode cX0_init 215 = .ok (.newarray .int, 2) := by decide +kernel
theorem dX0_init_217 : decode cX0_init 217 = .ok (.putfield 78, 3) := by decide +kernel
theorem dX0_init_220 : decode cX0_init 220 = .ok (.aload_n 0, 1) := by decide +kernel
theorem dX0_init_221 : decode cX0_init 221 = .ok (.bipush 22, 2) := by decide +kernel
theorem dX0_init_223 : decode cX0_init 223 = .ok (.newarray .int, 2) := by decide +kernel
theorem dX0_init_225 : decode cX0_init 225 = .ok (.putfield 81, 3) := by decide +kernel
theorem dX0_init_228 : decode cX0_init 228 = .ok (.aload_n 0, 1) := by decide +kernel
theorem dX0_init_229 : decode cX0_init 229 = .ok (.bipush 22, 2) := by decide +kernel
theorem dX0_init_231 : decode cX0_init 231 = .ok (.newarray .int, 2) := by decide +kernel
theorem dX0_init_233 : decode cX0_init 233 = .ok (.putfield 84, 3) := by decide +kernel
theorem dX0_init_236 : decode cX0_init 236 = .ok (.aload_n 0, 1) := by decide +kernel
theorem dX0_init_237 : decode cX0_init 237 = .ok (.bipush 22, 2) := by decide +kernel
theorem dX0_init_239 : decode cX0_init 239 = .ok (.newarray .int, 2) := by decide +kernel
theorem dX0_init_241 : decode cX0_init 241 = .ok (.putfield 87, 3) := by decide +kernel
theorem dX0_init_244 : decode cX0_init 244 = .ok (.aload_n 0, 1) := by decide +kernel
theorem dX0_init_245 : decode cX0_init 245 = .ok (.bipush 88, 2) := by decide +kernel
theorem dX0_init_247 : decode cX0_init 247 = .ok (.newarray .int, 2) := by decide +kernel
theorem dX0_init_249 : decode cX0_init 249 = .ok (.putfield 90, 3) := by decide +kernel
theorem dX0_init_252 : decode cX0_init 252 = .ok (.aload_n 0, 1) := by decide +kernel
theorem dX0_init_253 : decode cX0_init 253 = .ok (.bipush 22, 2) := by decide +kernel
theorem dX0_init_255 : decode cX0_init 255 = .ok (.newarray .int, 2) := by decide +kernel
theorem dX0_init_257 : decode cX0_init 257 = .ok (.putfield 93, 3) := by decide +kernel
theorem dX0_init_260 : decode cX0_init 260 = .ok (.iconst 0, 1) := by decide +kernel
theorem dX0_init_261 : decode cX0_init 261 = .ok (.istore_n 1, 1) := by decide +kernel
theorem dX0_init_262 : decode cX0_init 262 = .ok (.iload_n 1, 1) := by decide +kernel
theorem dX0_init_263 : decode cX0_init 263 = .ok (.bipush 22, 2) := by decide +kernel
theorem dX0_init_265 : decode cX0_init 265 = .ok (.if_icmp .ge 22, 3) := by decide +kernel
theorem dX0_init_268 : decode cX0_init 268 = .ok (.aload_n 0, 1) := by decide +kernel
theorem dX0_init_269 : decode cX0_init 269 = .ok (.getfield 37, 3) := by decide +kernel
theorem dX0_init_272 : decode cX0_init 272 = .ok (.iload_n 1, 1) := by decide +kernel
theorem dX0_init_273 : decode cX0_init 273 = .ok (.new 35, 3) := by decide +kernel
theorem dX0_init_276 : decode cX0_init 276 = .ok (.dup, 1) := by decide +kernel
theorem dX0_init_277 : decode cX0_init 277 = .ok (.invokespecial 96, 3) := by decide +kernel
theorem dX0_init_280 : decode cX0_init 280 = .ok (.aastore, 1) := by decide +kernel
theorem dX0_init_281 : decode cX0_init 281 = .ok (.iinc 1 1, 3) := by decide +kernel
theorem dX0_init_284 : decode cX0_init 284 = .ok (.goto (-22), 3) := by decide +kernel
theorem dX0_init_287 : decode cX0_init 287 = .ok (.iconst 0, 1) := by decide +kernel
theorem dX0_init_288 : decode cX0_init 288 = .ok (.istore_n 1, 1) := by decide +kernel
theorem dX0_init_289 : decode cX0_init 289 = .ok (.iload_n 1, 1) := by decide +kernel
theorem dX0_init_290 : decode cX0_init 290 = .ok (.bipush 64, 2) := by decide +kernel
theorem dX0_init_292 : decode cX0_init 292 = .ok (.if_icmp .ge 19, 3) := by decide +kernel
theorem dX0_init_295 : decode cX0_init 295 = .ok (.aload_n 0, 1) := by decide +kernel
theorem dX0_init_296 : decode cX0_init 296 = .ok (.getfield 68, 3) := by decide +kernel
theorem dX0_init_299 : decode cX0_init 299 = .ok (.iload_n 1, 1) := by decide +kernel
theorem dX0_init_300 : decode cX0_init 300 = .ok (.bipush 22, 2) := by decide +kernel
theorem dX0_init_302 : decode cX0_init 302 = .ok (.newarray .int, 2) := by decide +kernel
theorem dX0_init_304 : decode cX0_init 304 = .ok (.aastore, 1) := by decide +kernel
theorem dX0_init_305 : decode cX0_init 305 = .ok (.iinc 1 1, 3) := by decide +kernel
theorem dX0_init_308 : decode cX0_init 308 = .ok (.goto (-19), 3) := by decide +kernel
theorem dX0_init_311 : decode cX0_init 311 = .ok (.aload_n 0, 1) := by decide +kernel
theorem dX0_init_312 : decode cX0_init 312 = .ok (.invokevirtual 97, 3) := by decide +kernel
theorem dX0_init_315 : decode cX0_init 315 = .ok (.return_, 1) := by decide +kernel
theorem dX0_renew_0 : decode cX0_renew 0 = .ok (.aload_n 0, 1) := by decide +kernel
theorem dX0_renew_1 : decode cX0_renew 1 = .ok (.iconst 0, 1) := by decide +kernel
theorem dX0_renew_2 : decode cX0_renew 2 = .ok (.putfield 123, 3) := by decide +kernel
theorem dX0_renew_5 : decode cX0_renew 5 = .ok (.iconst 0, 1) := by decide +kernel
theorem dX0_renew_6 : decode cX0_renew 6 = .ok (.istore_n 1, 1) := by decide +kernel
theorem dX0_renew_7 : decode cX0_renew 7 = .ok (.iload_n 1, 1) := by decide +kernel
theorem dX0_renew_8 : decode cX0_renew 8 = .ok (.aload_n 0, 1) := by decide +kernel
theorem dX0_renew_9 : decode cX0_renew 9 = .ok (.getfield 100, 3) := by decide +kernel
theorem dX0_renew_12 : decode cX0_renew 12 = .ok (.if_icmp .ge 72, 3) := by decide +kernel
theorem dX0_renew_15 : decode cX0_renew 15 = .ok (.iconst 0, 1) := by decide +kernel
theorem dX0_renew_16 : decode cX0_renew 16 = .ok (.istore_n 2, 1) := by decide +kernel
theorem dX0_renew_17 : decode cX0_renew 17 = .ok (.iload_n 2, 1) := by decide +kernel
theorem dX0_renew_18 : decode cX0_renew 18 = .ok (.bipush 6, 2) := by decide +kernel
theorem dX0_renew_20 : decode cX0_renew 20 = .ok (.if_icmp .ge 58, 3) := by decide +kernel
theorem dX0_renew_23 : decode cX0_renew 23 = .ok (.aload_n 0, 1) := by decide +kernel
theorem dX0_renew_24 : decode cX0_renew 24 = .ok (.iload_n 1, 1) := by decide +kernel
theorem dX0_renew_25 : decode cX0_renew 25 = .ok (.iload_n 2, 1) := by decide +kernel
theorem dX0_renew_26 : decode cX0_renew 26 = .ok (.bipush (-9), 2) := by decide +kernel
theorem dX0_renew_28 : decode cX0_renew 28 = .ok (.invokevirtual 126, 3) := by decide +kernel
theorem dX0_renew_31 : decode cX0_renew 31 = .ok (.bipush (-9), 2) := by decide +kernel
theorem dX0_renew_33 : decode cX0_renew 33 = .ok (.if_icmp .ne 39, 3) := by decide +kernel
theorem dX0_renew_36 : decode cX0_renew 36 = .ok (.aload_n 0, 1) := by decide +kernel
theorem dX0_renew_37 : decode cX0_renew 37 = .ok (.getfield 37, 3) := by decide +kernel
theorem dX0_renew_40 : decode cX0_renew 40 = .ok (.aload_n 0, 1) := by decide +kernel
theorem dX0_renew_41 : decode cX0_renew 41 = .ok (.getfield 123, 3) := by decide +kernel
theorem dX0_renew_44 : decode cX0_renew 44 = .ok (.aaload, 1) := by decide +kernel
theorem dX0_renew_45 : decode cX0_renew 45 = .ok (.iload_n 1, 1) := by decide +kernel
theorem dX0_renew_46 : decode cX0_renew 46 = .ok (.putfield 117, 3) := by decide +kernel
theorem dX0_renew_49 : decode cX0_renew 49 = .ok (.aload_n 0, 1) := by decide +kernel
theorem dX0_renew_50 : decode cX0_renew 50 = .ok (.getfield 37, 3) := by decide +kernel
theorem dX0_renew_53 : decode cX0_renew 53 = .ok (.aload_n 0, 1) := by decide +kernel
theorem dX0_renew_54 : decode cX0_renew 54 = .ok (.getfield 123, 3) := by decide +kernel
theorem dX0_renew_57 : decode cX0_renew 57 = .ok (.aaload, 1) := by decide +kernel
theorem dX0_renew_58 : decode cX0_renew 58 = .ok (.iload_n 2, 1) := by decide +kernel
theorem dX0_renew_59 : decode cX0_renew 59 = .ok (.putfield 120, 3) := by decide +kernel
theorem dX0_renew_62 : decode cX0_renew 62 = .ok (.aload_n 0, 1) := by decide +kernel
theorem dX0_renew_63 : decode cX0_renew 63 = .ok (.dup, 1) := by decide +kernel
theorem dX0_renew_64 : decode cX0_renew 64 = .ok (.getfield 123, 3) := by decide +kernel
theorem dX0_renew_67 : decode cX0_renew 67 = .ok (.iconst 1, 1) := by decide +kernel
theorem dX0_renew_68 : decode cX0_renew 68 = .ok (.iadd, 1) := by decide +kernel
theorem dX0_renew_69 : decode cX0_renew 69 = .ok (.putfield 123, 3) := by decide +kernel
theorem dX0_renew_72 : decode cX0_renew 72 = .ok (.iinc 2 1, 3) := by decide +kernel
theorem dX0_renew_75 : decode cX0_renew 75 = .ok (.goto (-58), 3) := by decide +kernel
theorem dX0_renew_78 : decode cX0_renew 78 = .ok (.iinc 1 1, 3) := by decide +kernel
theorem dX0_renew_81 : decode cX0_renew 81 = .ok (.goto (-74), 3) := by decide +kernel
theorem dX0_renew_84 : decode cX0_renew 84 = .ok (.iconst 0, 1) := by decide +kernel
theorem dX0_renew_85 : decode cX0_renew 85 = .ok (.istore_n 1, 1) := by decide +kernel
theorem dX0_renew_86 : decode cX0_renew 86 = .ok (.iload_n 1, 1) := by decide +kernel
theorem dX0_renew_87 : decode cX0_renew 87 = .ok (.aload_n 0, 1) := by decide +kernel
theorem dX0_renew_88 : decode cX0_renew 88 = .ok (.getfield 123, 3) := by decide +kernel
theorem dX0_renew_91 : decode cX0_renew 91 = .ok (.if_icmp .ge 55, 3) := by decide +kernel
theorem dX0_renew_94 : decode cX0_renew 94 = .ok (.aload_n 0, 1) := by decide +kernel
theorem dX0_renew_95 : decode cX0_renew 95 = .ok (.getfield 37, 3) := by decide +kernel
theorem dX0_renew_98 : decode cX0_renew 98 = .ok (.iload_n 1, 1) := by decide +kernel
theorem dX0_renew_99 : decode cX0_renew 99 = .ok (.aaload, 1) := by decide +kernel
theorem dX0_renew_100 : decode cX0_renew 100 = .ok (.astore_n 2, 1) := by decide +kernel
theorem dX0_renew_101 : decode cX0_renew 101 = .ok (.iconst 0, 1) := by decide +kernel
theorem dX0_renew_102 : decode cX0_renew 102 = .ok (.istore_n 3, 1) := by decide +kernel
theorem dX0_renew_103 : decode cX0_renew 103 = .ok (.iload_n 3, 1) := by decide +kernel
theorem dX0_renew_104 : decode cX0_renew 104 = .ok (.bipush 6, 2) := by decide +kernel
theorem dX0_renew_106 : decode cX0_renew 106 = .ok (.if_icmp .ge 34, 3) := by decide +kernel
theorem dX0_renew_109 : decode cX0_renew 109 = .ok (.aload_n 2, 1) := by decide +kernel
theorem dX0_renew_110 : decode cX0_renew 110 = .ok (.getfield 129, 3) := by decide +kernel
theorem dX0_renew_113 : decode cX0_renew 113 = .ok (.iload_n 3, 1) := by decide +kernel
theorem dX0_renew_114 : decode cX0_renew 114 = .ok (.iconst (-1), 1) := by decide +kernel
theorem dX0_renew_115 : decode cX0_renew 115 = .ok (.iastore, 1) := by decide +kernel
theorem dX0_renew_116 : decode cX0_renew 116 = .ok (.iload_n 3, 1) := by decide +kernel
theorem dX0_renew_117 : decode cX0_renew 117 = .ok (.iconst 1, 1) := by decide +kernel
theorem dX0_renew_118 : decode cX0_renew 118 = .ok (.ishr, 1) := by decide +kernel
theorem dX0_renew_119 : decode cX0_renew 119 = .ok (.aload_n 2, 1) := by decide +kernel
theorem dX0_renew_120 : decode cX0_renew 120 = .ok (.getfield 120, 3) := by decide +kernel
theorem dX0_renew_123 : decode cX0_renew 123 = .ok (.iconst 1, 1) := by decide +kernel
theorem dX0_renew_124 : decode cX0_renew 124 = .ok (.ishr, 1) := by decide +kernel
theorem dX0_renew_125 : decode cX0_renew 125 = .ok (.if_icmp .eq 9, 3) := by decide +kernel
theorem dX0_renew_128 : decode cX0_renew 128 = .ok (.aload_n 0, 1) := by decide +kernel
theorem dX0_renew_129 : decode cX0_renew 129 = .ok (.aload_n 2, 1) := by decide +kernel
theorem dX0_renew_130 : decode cX0_renew 130 = .ok (.iload_n 3, 1) := by decide +kernel
theorem dX0_renew_131 : decode cX0_renew 131 = .ok (.invokevirtual 132, 3) := by decide +kernel
theorem dX0_renew_134 : decode cX0_renew 134 = .ok (.iinc 3 1, 3) := by decide +kernel
theorem dX0_renew_137 : decode cX0_renew 137 = .ok (.goto (-34), 3) := by decide +kernel
theorem dX0_renew_140 : decode cX0_renew 140 = .ok (.iinc 1 1, 3) := by decide +kernel
theorem dX0_renew_143 : decode cX0_renew 143 = .ok (.goto (-57), 3) := by decide +kernel
theorem dX0_renew_146 : decode cX0_renew 146 = .ok (.aload_n 0, 1) := by decide +kernel
theorem dX0_renew_147 : decode cX0_renew 147 = .ok (.getfield 51, 3) := by decide +kernel
theorem dX0_renew_150 : decode cX0_renew 150 = .ok (.invokevirtual 136, 3) := by decide +kernel
theorem dX0_renew_153 : decode cX0_renew 153 = .ok (.aload_n 0, 1) := by decide +kernel
theorem dX0_renew_154 : decode cX0_renew 154 = .ok (.getfield 55, 3) := by decide +kernel
theorem dX0_renew_157 : decode cX0_renew 157 = .ok (.invokevirtual 136, 3) := by decide +kernel
theorem dX0_renew_160 : decode cX0_renew 160 = .ok (.aload_n 0, 1) := by decide +kernel
theorem dX0_renew_161 : decode cX0_renew 161 = .ok (.iconst 0, 1) := by decide +kernel
theorem dX0_renew_162 : decode cX0_renew 162 = .ok (.putfield 139, 3) := by decide +kernel
theorem dX0_renew_165 : decode cX0_renew 165 = .ok (.aload_n 0, 1) := by decide +kernel
theorem dX0_renew_166 : decode cX0_renew 166 = .ok (.iconst 0, 1) := by decide +kernel
theorem dX0_renew_167 : decode cX0_renew 167 = .ok (.putfield 142, 3) := by decide +kernel
theorem dX0_renew_170 : decode cX0_renew 170 = .ok (.aload_n 0, 1) := by decide +kernel
theorem dX0_renew_171 : decode cX0_renew 171 = .ok (.iconst 0, 1) := by decide +kernel
theorem dX0_renew_172 : decode cX0_renew 172 = .ok (.putfield 145, 3) := by decide +kernel
theorem dX0_renew_175 : decode cX0_renew 175 = .ok (.aload_n 0, 1) := by decide +kernel
theorem dX0_renew_176 : decode cX0_renew 176 = .ok (.iconst 0, 1) := by decide +kernel
theorem dX0_renew_177 : decode cX0_renew 177 = .ok (.putfield 148, 3) := by decide +kernel
theorem dX0_renew_180 : decode cX0_renew 180 = .ok (.aload_n 0, 1) := by decide +kernel
theorem dX0_renew_181 : decode cX0_renew 181 = .ok (.iconst 0, 1) := by decide +kernel
theorem dX0_renew_182 : decode cX0_renew 182 = .ok (.putfield 151, 3) := by decide +kernel
theorem dX0_renew_185 : decode cX0_renew 185 = .ok (.aload_n 0, 1) := by decide +kernel
theorem dX0_renew_186 : decode cX0_renew 186 = .ok (.bipush (-9), 2) := by decide +kernel
theorem dX0_renew_188 : decode cX0_renew 188 = .ok (.putfield 155, 3) := by decide +kernel
theorem dX0_renew_191 : decode cX0_renew 191 = .ok (.aload_n 0, 1) := by decide +kernel
theorem dX0_renew_192 : decode cX0_renew 192 = .ok (.getfield 100, 3) := by decide +kernel
theorem dX0_renew_195 : decode cX0_renew 195 = .ok (.ifCond .le 11, 3) := by decide +kernel
theorem dX0_renew_198 : decode cX0_renew 198 = .ok (.aload_n 0, 1) := by decide +kernel
theorem dX0_renew_199 : decode cX0_renew 199 = .ok (.getfield 55, 3) := by decide +kernel
theorem dX0_renew_202 : decode cX0_renew 202 = .ok (.iconst 0, 1) := by decide +kernel
theorem dX0_renew_203 : decode cX0_renew 203 = .ok (.invokevirtual 158, 3) := by decide +kernel
theorem dX0_renew_206 : decode cX0_renew 206 = .ok (.return_, 1) := by decide +kernel
theorem dX0_cubeBy_0 : decode cX0_cubeBy 0 = .ok (.aload_n 0, 1) := by decide +kernel
theorem dX0_cubeBy_1 : decode cX0_cubeBy 1 = .ok (.getfield 13, 3) := by decide +kernel
theorem dX0_cubeBy_4 : decode cX0_cubeBy 4 = .ok (.iload_n 2, 1) := by decide +kernel
theorem dX0_cubeBy_5 : decode cX0_cubeBy 5 = .ok (.aaload, 1) := by decide +kernel
theorem dX0_cubeBy_6 : decode cX0_cubeBy 6 = .ok (.getfield 104, 3) := by decide +kernel
theorem dX0_cubeBy_9 : decode cX0_cubeBy 9 = .ok (.iload_n 3, 1) := by decide +kernel
theorem dX0_cubeBy_10 : decode cX0_cubeBy 10 = .ok (.bipush (-9), 2) := by decide +kernel
theorem dX0_cubeBy_12 : decode cX0_cubeBy 12 = .ok (.if_icmp .ne 7, 3) := by decide +kernel
theorem dX0_cubeBy_15 : decode cX0_cubeBy 15 = .ok (.iconst 0, 1) := by decide +kernel
theorem dX0_cubeBy_16 : decode cX0_cubeBy 16 = .ok (.goto 12, 3) := by decide +kernel
theorem dX0_cubeBy_19 : decode cX0_cubeBy 19 = .ok (.aload_n 0, 1) := by decide +kernel
theorem dX0_cubeBy_20 : decode cX0_cubeBy 20 = .ok (.getfield 13, 3) := by decide +kernel
theorem dX0_cubeBy_23 : decode cX0_cubeBy 23 = .ok (.iload_n 3, 1) := by decide +kernel
theorem dX0_cubeBy_24 : decode cX0_cubeBy 24 = .ok (.aaload, 1) := by decide +kernel
theorem dX0_cubeBy_25 : decode cX0_cubeBy 25 = .ok (.getfield 104, 3) := by decide +kernel
theorem dX0_cubeBy_28 : decode cX0_cubeBy 28 = .ok (.iadd, 1) := by decide +kernel
theorem dX0_cubeBy_29 : decode cX0_cubeBy 29 = .ok (.istore 4, 2) := by decide +kernel
theorem dX0_cubeBy_31 : decode cX0_cubeBy 31 = .ok (.aload_n 0, 1) := by decide +kernel
theorem dX0_cubeBy_32 : decode cX0_cubeBy 32 = .ok (.getfield 13, 3) := by decide +kernel
theorem dX0_cubeBy_35 : decode cX0_cubeBy 35 = .ok (.iload_n 2, 1) := by decide +kernel
theorem dX0_cubeBy_36 : decode cX0_cubeBy 36 = .ok (.aaload, 1) := by decide +kernel
theorem dX0_cubeBy_37 : decode cX0_cubeBy 37 = .ok (.getfield 107, 3) := by decide +kernel
theorem dX0_cubeBy_40 : decode cX0_cubeBy 40 = .ok (.iload_n 3, 1) := by decide +kernel
theorem dX0_cubeBy_41 : decode cX0_cubeBy 41 = .ok (.bipush (-9), 2) := by decide +kernel
theorem dX0_cubeBy_43 : decode cX0_cubeBy 43 = .ok (.if_icmp .ne 7, 3) := by decide +kernel
theorem dX0_cubeBy_46 : decode cX0_cubeBy 46 = .ok (.iconst 0, 1) := by decide +kernel
theorem dX0_cubeBy_47 : decode cX0_cubeBy 47 = .ok (.goto 12, 3) := by decide +kernel
theorem dX0_cubeBy_50 : decode cX0_cubeBy 50 = .ok (.aload_n 0, 1) := by decide +kernel
theorem dX0_cubeBy_51 : decode cX0_cubeBy 51 = .ok (.getfield 13, 3) := by decide +kernel
theorem dX0_cubeBy_54 : decode cX0_cubeBy 54 = .ok (.iload_n 3, 1) := by decide +kernel
theorem dX0_cubeBy_55 : decode cX0_cubeBy 55 = .ok (.aaload, 1) := by decide +kernel
theorem dX0_cubeBy_56 : decode cX0_cubeBy 56 = .ok (.getfield 107, 3) := by decide +kernel
theorem dX0_cubeBy_59 : decode cX0_cubeBy 59 = .ok (.iadd, 1) := by decide +kernel
theorem dX0_cubeBy_60 : decode cX0_cubeBy 60 = .ok (.istore 5, 2) := by decide +kernel
theorem dX0_cubeBy_62 : decode cX0_cubeBy 62 = .ok (.aload_n 0, 1) := by decide +kernel
theorem dX0_cubeBy_63 : decode cX0_cubeBy 63 = .ok (.getfield 13, 3) := by decide +kernel
theorem dX0_cubeBy_66 : decode cX0_cubeBy 66 = .ok (.iload_n 2, 1) := by decide +kernel
theorem dX0_cubeBy_67 : decode cX0_cubeBy 67 = .ok (.aaload, 1) := by decide +kernel
theorem dX0_cubeBy_68 : decode cX0_cubeBy 68 = .ok (.getfield 110, 3) := by decide +kernel
theorem dX0_cubeBy_71 : decode cX0_cubeBy 71 = .ok (.iload_n 3, 1) := by decide +kernel
theorem dX0_cubeBy_72 : decode cX0_cubeBy 72 = .ok (.bipush (-9), 2) := by decide +kernel
theorem dX0_cubeBy_74 : decode cX0_cubeBy 74 = .ok (.if_icmp .ne 7, 3) := by decide +kernel
theorem dX0_cubeBy_77 : decode cX0_cubeBy 77 = .ok (.iconst 0, 1) := by decide +kernel
theorem dX0_cubeBy_78 : decode cX0_cubeBy 78 = .ok (.goto 12, 3) := by decide +kernel
theorem dX0_cubeBy_81 : decode cX0_cubeBy 81 = .ok (.aload_n 0, 1) := by decide +kernel
theorem dX0_cubeBy_82 : decode cX0_cubeBy 82 = .ok (.getfield 13, 3) := by decide +kernel
theorem dX0_cubeBy_85 : decode cX0_cubeBy 85 = .ok (.iload_n 3, 1) := by decide +kernel
theorem dX0_cubeBy_86 : decode cX0_cubeBy 86 = .ok (.aaload, 1) := by decide +kernel
theorem dX0_cubeBy_87 : decode cX0_cubeBy 87 = .ok (.getfield 110, 3) := by decide +kernel
theorem dX0_cubeBy_90 : decode cX0_cubeBy 90 = .ok (.iadd, 1) := by decide +kernel
theorem dX0_cubeBy_91 : decode cX0_cubeBy 91 = .ok (.istore 6, 2) := by decide +kernel
theorem dX0_cubeBy_93 : decode cX0_cubeBy 93 = .ok (.aload_n 0, 1) := by decide +kernel
theorem dX0_cubeBy_94 : decode cX0_cubeBy 94 = .ok (.aload_n 0, 1) := by decide +kernel
theorem dX0_cubeBy_95 : decode cX0_cubeBy 95 = .ok (.getfield 26, 3) := by decide +kernel
theorem dX0_cubeBy_98 : decode cX0_cubeBy 98 = .ok (.iload_n 1, 1) := by decide +kernel
theorem dX0_cubeBy_99 : decode cX0_cubeBy 99 = .ok (.iaload, 1) := by decide +kernel
theorem dX0_cubeBy_100 : decode cX0_cubeBy 100 = .ok (.iload 4, 2) := by decide +kernel
theorem dX0_cubeBy_102 : decode cX0_cubeBy 102 = .ok (.iadd, 1) := by decide +kernel
theorem dX0_cubeBy_103 : decode cX0_cubeBy 103 = .ok (.aload_n 0, 1) := by decide +kernel
theorem dX0_cubeBy_104 : decode cX0_cubeBy 104 = .ok (.getfield 29, 3) := by decide +kernel
theorem dX0_cubeBy_107 : decode cX0_cubeBy 107 = .ok (.iload_n 1, 1) := by decide +kernel
theorem dX0_cubeBy_108 : decode cX0_cubeBy 108 = .ok (.iaload, 1) := by decide +kernel
theorem dX0_cubeBy_109 : decode cX0_cubeBy 109 = .ok (.iload 5, 2) := by decide +kernel
theorem dX0_cubeBy_111 : decode cX0_cubeBy 111 = .ok (.iadd, 1) := by decide +kernel
theorem dX0_cubeBy_112 : decode cX0_cubeBy 112 = .ok (.aload_n 0, 1) := by decide +kernel
theorem dX0_cubeBy_113 : decode cX0_cubeBy 113 = .ok (.getfield 32, 3) := by decide +kernel
theorem dX0_cubeBy_116 : decode cX0_cubeBy 116 = .ok (.iload_n 1, 1) := by decide +kernel
theorem dX0_cubeBy_117 : decode cX0_cubeBy 117 = .ok (.iaload, 1) := by decide +kernel
theorem dX0_cubeBy_118 : decode cX0_cubeBy 118 = .ok (.iload 6, 2) := by decide +kernel
theorem dX0_cubeBy_120 : decode cX0_cubeBy 120 = .ok (.iadd, 1) := by decide +kernel
theorem dX0_cubeBy_121 : decode cX0_cubeBy 121 = .ok (.invokevirtual 113, 3) := by decide +kernel
theorem dX0_cubeBy_124 : decode cX0_cubeBy 124 = .ok (.ireturn, 1) := by decide +kernel
theorem dX0_cubeAt_0 : decode cX0_cubeAt 0 = .ok (.iconst 0, 1) := by decide +kernel
theorem dX0_cubeAt_1 : decode cX0_cubeAt 1 = .ok (.istore 4, 2) := by decide +kernel
theorem dX0_cubeAt_3 : decode cX0_cubeAt 3 = .ok (.iload 4, 2) := by decide +kernel
theorem dX0_cubeAt_5 : decode cX0_cubeAt 5 = .ok (.aload_n 0, 1) := by decide +kernel
theorem dX0_cubeAt_6 : decode cX0_cubeAt 6 = .ok (.getfield 100, 3) := by decide +kernel
theorem dX0_cubeAt_9 : decode cX0_cubeAt 9 = .ok (.if_icmp .ge 45, 3) := by decide +kernel
theorem dX0_cubeAt_12 : decode cX0_cubeAt 12 = .ok (.aload_n 0, 1) := by decide +kernel
theorem dX0_cubeAt_13 : decode cX0_cubeAt 13 = .ok (.getfield 26, 3) := by decide +kernel
theorem dX0_cubeAt_16 : decode cX0_cubeAt 16 = .ok (.iload 4, 2) := by decide +kernel
theorem dX0_cubeAt_18 : decode cX0_cubeAt 18 = .ok (.iaload, 1) := by decide +kernel
theorem dX0_cubeAt_19 : decode cX0_cubeAt 19 = .ok (.iload_n 1, 1) := by decide +kernel
theorem dX0_cubeAt_20 : decode cX0_cubeAt 20 = .ok (.if_icmp .ne 28, 3) := by decide +kernel
theorem dX0_cubeAt_23 : decode cX0_cubeAt 23 = .ok (.aload_n 0, 1) := by decide +kernel
theorem dX0_cubeAt_24 : decode cX0_cubeAt 24 = .ok (.getfield 29, 3) := by decide +kernel
theorem dX0_cubeAt_27 : decode cX0_cubeAt 27 = .ok (.iload 4, 2) := by decide +kernel
theorem dX0_cubeAt_29 : decode cX0_cubeAt 29 = .ok (.iaload, 1) := by decide +kernel
theorem dX0_cubeAt_30 : decode cX0_cubeAt 30 = .ok (.iload_n 2, 1) := by decide +kernel
theorem dX0_cubeAt_31 : decode cX0_cubeAt 31 = .ok (.if_icmp .ne 17, 3) := by decide +kernel
theorem dX0_cubeAt_34 : decode cX0_cubeAt 34 = .ok (.aload_n 0, 1) := by decide +kernel
theorem dX0_cubeAt_35 : decode cX0_cubeAt 35 = .ok (.getfield 32, 3) := by decide +kernel
theorem dX0_cubeAt_38 : decode cX0_cubeAt 38 = .ok (.iload 4, 2) := by decide +kernel
theorem dX0_cubeAt_40 : decode cX0_cubeAt 40 = .ok (.iaload, 1) := by decide +kernel
theorem dX0_cubeAt_41 : decode cX0_cubeAt 41 = .ok (.iload_n 3, 1) := by decide +kernel
theorem dX0_cubeAt_42 : decode cX0_cubeAt 42 = .ok (.if_icmp .ne 6, 3) := by decide +kernel
theorem dX0_cubeAt_45 : decode cX0_cubeAt 45 = .ok (.iload 4, 2) := by decide +kernel
theorem dX0_cubeAt_47 : decode cX0_cubeAt 47 = .ok (.ireturn, 1) := by decide +kernel
theorem dX0_cubeAt_48 : decode cX0_cubeAt 48 = .ok (.iinc 4 1, 3) := by decide +kernel
theorem dX0_cubeAt_51 : decode cX0_cubeAt 51 = .ok (.goto (-48), 3) := by decide +kernel
theorem dX0_cubeAt_54 : decode cX0_cubeAt 54 = .ok (.bipush (-9), 2) := by decide +kernel
theorem dX0_cubeAt_56 : decode cX0_cubeAt 56 = .ok (.ireturn, 1) := by decide +kernel
theorem dX0_findAcross_0 : decode cX0_findAcross 0 = .ok (.aload_n 0, 1) := by decide +kernel
theorem dX0_findAcross_1 : decode cX0_findAcross 1 = .ok (.aload_n 1, 1) := by decide +kernel
theorem dX0_findAcross_2 : decode cX0_findAcross 2 = .ok (.getfield 117, 3) := by decide +kernel
theorem dX0_findAcross_5 : decode cX0_findAcross 5 = .ok (.aload_n 1, 1) := by decide +kernel
theorem dX0_findAcross_6 : decode cX0_findAcross 6 = .ok (.getfield 120, 3) := by decide +kernel
theorem dX0_findAcross_9 : decode cX0_findAcross 9 = .ok (.iload_n 2, 1) := by decide +kernel
theorem dX0_findAcross_10 : decode cX0_findAcross 10 = .ok (.invokevirtual 126, 3) := by decide +kernel
theorem dX0_findAcross_13 : decode cX0_findAcross 13 = .ok (.istore_n 3, 1) := by decide +kernel
theorem dX0_findAcross_14 : decode cX0_findAcross 14 = .ok (.aload_n 0, 1) := by decide +kernel
theorem dX0_findAcross_15 : decode cX0_findAcross 15 = .ok (.aload_n 1, 1) := by decide +kernel
theorem dX0_findAcross_16 : decode cX0_findAcross 16 = .ok (.getfield 117, 3) := by decide +kernel
theorem dX0_findAcross_19 : decode cX0_findAcross 19 = .ok (.iload_n 2, 1) := by decide +kernel
theorem dX0_findAcross_20 : decode cX0_findAcross 20 = .ok (.bipush (-9), 2) := by decide +kernel
theorem dX0_findAcross_22 : decode cX0_findAcross 22 = .ok (.invokevirtual 126, 3) := by decide +kernel
theorem dX0_findAcross_25 : decode cX0_findAcross 25 = .ok (.istore 4, 2) := by decide +kernel
theorem dX0_findAcross_27 : decode cX0_findAcross 27 = .ok (.iload_n 3, 1) := by decide +kernel
theorem dX0_findAcross_28 : decode cX0_findAcross 28 = .ok (.bipush (-9), 2) := by decide +kernel
theorem dX0_findAcross_30 : decode cX0_findAcross 30 = .ok (.if_icmp .eq 30, 3) := by decide +kernel
theorem dX0_findAcross_33 : decode cX0_findAcross 33 = .ok (.aload_n 1, 1) := by decide +kernel
theorem dX0_findAcross_34 : decode cX0_findAcross 34 = .ok (.getfield 129, 3) := by decide +kernel
theorem dX0_findAcross_37 : decode cX0_findAcross 37 = .ok (.iload_n 2, 1) := by decide +kernel
theorem dX0_findAcross_38 : decode cX0_findAcross 38 = .ok (.aload_n 0, 1) := by decide +kernel
theorem dX0_findAcross_39 : decode cX0_findAcross 39 = .ok (.iload_n 3, 1) := by decide +kernel
theorem dX0_findAcross_40 : decode cX0_findAcross 40 = .ok (.iload_n 2, 1) := by decide +kernel
theorem dX0_findAcross_41 : decode cX0_findAcross 41 = .ok (.iconst 1, 1) := by decide +kernel
theorem dX0_findAcross_42 : decode cX0_findAcross 42 = .ok (.ixor, 1) := by decide +kernel
theorem dX0_findAcross_43 : decode cX0_findAcross 43 = .ok (.invokevirtual 162, 3) := by decide +kernel
theorem dX0_findAcross_46 : decode cX0_findAcross 46 = .ok (.iastore, 1) := by decide +kernel
theorem dX0_findAcross_47 : decode cX0_findAcross 47 = .ok (.aload_n 1, 1) := by decide +kernel
theorem dX0_findAcross_48 : decode cX0_findAcross 48 = .ok (.getfield 166, 3) := by decide +kernel
theorem dX0_findAcross_51 : decode cX0_findAcross 51 = .ok (.iload_n 2, 1) := by decide +kernel
theorem dX0_findAcross_52 : decode cX0_findAcross 52 = .ok (.aload_n 1, 1) := by decide +kernel
theorem dX0_findAcross_53 : decode cX0_findAcross 53 = .ok (.getfield 120, 3) := by decide +kernel
theorem dX0_findAcross_56 : decode cX0_findAcross 56 = .ok (.iastore, 1) := by decide +kernel
theorem dX0_findAcross_57 : decode cX0_findAcross 57 = .ok (.goto 63, 3) := by decide +kernel
theorem dX0_findAcross_60 : decode cX0_findAcross 60 = .ok (.iload 4, 2) := by decide +kernel
theorem dX0_findAcross_62 : decode cX0_findAcross 62 = .ok (.bipush (-9), 2) := by decide +kernel
theorem dX0_findAcross_64 : decode cX0_findAcross 64 = .ok (.if_icmp .eq 29, 3) := by decide +kernel
theorem dX0_findAcross_67 : decode cX0_findAcross 67 = .ok (.aload_n 1, 1) := by decide +kernel
theorem dX0_findAcross_68 : decode cX0_findAcross 68 = .ok (.getfield 129, 3) := by decide +kernel
theorem dX0_findAcross_71 : decode cX0_findAcross 71 = .ok (.iload_n 2, 1) := by decide +kernel
theorem dX0_findAcross_72 : decode cX0_findAcross 72 = .ok (.aload_n 0, 1) := by decide +kernel
theorem dX0_findAcross_73 : decode cX0_findAcross 73 = .ok (.iload 4, 2) := by decide +kernel
theorem dX0_findAcross_75 : decode cX0_findAcross 75 = .ok (.aload_n 1, 1) := by decide +kernel
theorem dX0_findAcross_76 : decode cX0_findAcross 76 = .ok (.getfield 120, 3) := by decide +kernel
theorem dX0_findAcross_79 : decode cX0_findAcross 79 = .ok (.invokevirtual 162, 3) := by decide +kernel
theorem dX0_findAcross_82 : decode cX0_findAcross 82 = .ok (.iastore, 1) := by decide +kernel
theorem dX0_findAcross_83 : decode cX0_findAcross 83 = .ok (.aload_n 1, 1) := by decide +kernel
theorem dX0_findAcross_84 : decode cX0_findAcross 84 = .ok (.getfield 166, 3) := by decide +kernel
theorem dX0_findAcross_87 : decode cX0_findAcross 87 = .ok (.iload_n 2, 1) := by decide +kernel
theorem dX0_findAcross_88 : decode cX0_findAcross 88 = .ok (.iload_n 2, 1) := by decide +kernel
theorem dX0_findAcross_89 : decode cX0_findAcross 89 = .ok (.iastore, 1) := by decide +kernel
theorem dX0_findAcross_90 : decode cX0_findAcross 90 = .ok (.goto 30, 3) := by decide +kernel
theorem dX0_findAcross_93 : decode cX0_findAcross 93 = .ok (.aload_n 1, 1) := by decide +kernel
theorem dX0_findAcross_94 : decode cX0_findAcross 94 = .ok (.getfield 129, 3) := by decide +kernel
theorem dX0_findAcross_97 : decode cX0_findAcross 97 = .ok (.iload_n 2, 1) := by decide +kernel
theorem dX0_findAcross_98 : decode cX0_findAcross 98 = .ok (.aload_n 0, 1) := by decide +kernel
theorem dX0_findAcross_99 : decode cX0_findAcross 99 = .ok (.aload_n 1, 1) := by decide +kernel
theorem dX0_findAcross_100 : decode cX0_findAcross 100 = .ok (.getfield 117, 3) := by decide +kernel
theorem dX0_findAcross_103 : decode cX0_findAcross 103 = .ok (.iload_n 2, 1) := by decide +kernel
theorem dX0_findAcross_104 : decode cX0_findAcross 104 = .ok (.invokevirtual 162, 3) := by decide +kernel
theorem dX0_findAcross_107 : decode cX0_findAcross 107 = .ok (.iastore, 1) := by decide +kernel
theorem dX0_findAcross_108 : decode cX0_findAcross 108 = .ok (.aload_n 1, 1) := by decide +kernel
theorem dX0_findAcross_109 : decode cX0_findAcross 109 = .ok (.getfield 166, 3) := by decide +kernel
theorem dX0_findAcross_112 : decode cX0_findAcross 112 = .ok (.iload_n 2, 1) := by decide +kernel
theorem dX0_findAcross_113 : decode cX0_findAcross 113 = .ok (.aload_n 1, 1) := by decide +kernel
theorem dX0_findAcross_114 : decode cX0_findAcross 114 = .ok (.getfield 120, 3) := by decide +kernel
theorem dX0_findAcross_117 : decode cX0_findAcross 117 = .ok (.iconst 1, 1) := by decide +kernel
theorem dX0_findAcross_118 : decode cX0_findAcross 118 = .ok (.ixor, 1) := by decide +kernel
theorem dX0_findAcross_119 : decode cX0_findAcross 119 = .ok (.iastore, 1) := by decide +kernel
theorem dX0_findAcross_120 : decode cX0_findAcross 120 = .ok (.return_, 1) := by decide +kernel
theorem dX0_faceAt_0 : decode cX0_faceAt 0 = .ok (.iconst 0, 1) := by decide +kernel
theorem dX0_faceAt_1 : decode cX0_faceAt 1 = .ok (.istore_n 3, 1) := by decide +kernel
theorem dX0_faceAt_2 : decode cX0_faceAt 2 = .ok (.aload_n 0, 1) := by decide +kernel
theorem dX0_faceAt_3 : decode cX0_faceAt 3 = .ok (.getfield 37, 3) := by decide +kernel
theorem dX0_faceAt_6 : decode cX0_faceAt 6 = .ok (.iload_n 3, 1) := by decide +kernel
theorem dX0_faceAt_7 : decode cX0_faceAt 7 = .ok (.aaload, 1) := by decide +kernel
theorem dX0_faceAt_8 : decode cX0_faceAt 8 = .ok (.getfield 117, 3) := by decide +kernel
theorem dX0_faceAt_11 : decode cX0_faceAt 11 = .ok (.iload_n 1, 1) := by decide +kernel
theorem dX0_faceAt_12 : decode cX0_faceAt 12 = .ok (.if_icmp .ne 16, 3) := by decide +kernel
theorem dX0_faceAt_15 : decode cX0_faceAt 15 = .ok (.aload_n 0, 1) := by decide +kernel
theorem dX0_faceAt_16 : decode cX0_faceAt 16 = .ok (.getfield 37, 3) := by decide +kernel
theorem dX0_faceAt_19 : decode cX0_faceAt 19 = .ok (.iload_n 3, 1) := by decide +kernel
theorem dX0_faceAt_20 : decode cX0_faceAt 20 = .ok (.aaload, 1) := by decide +kernel
theorem dX0_faceAt_21 : decode cX0_faceAt 21 = .ok (.getfield 120, 3) := by decide +kernel
theorem dX0_faceAt_24 : decode cX0_faceAt 24 = .ok (.iload_n 2, 1) := by decide +kernel
theorem dX0_faceAt_25 : decode cX0_faceAt 25 = .ok (.if_icmp .eq 9, 3) := by decide +kernel
theorem dX0_faceAt_28 : decode cX0_faceAt 28 = .ok (.iinc 3 1, 3) := by decide +kernel
theorem dX0_faceAt_31 : decode cX0_faceAt 31 = .ok (.goto (-29), 3) := by decide +kernel
theorem dX0_faceAt_34 : decode cX0_faceAt 34 = .ok (.iload_n 3, 1) := by decide +kernel
theorem dX0_faceAt_35 : decode cX0_faceAt 35 = .ok (.ireturn, 1) := by decide +kernel
theorem dX0_cube_0 : decode cX0_cube 0 = .ok (.iload_n 1, 1) := by decide +kernel
theorem dX0_cube_1 : decode cX0_cube 1 = .ok (.iconst 0, 1) := by decide +kernel
theorem dX0_cube_2 : decode cX0_cube 2 = .ok (.iconst 4, 1) := by decide +kernel
theorem dX0_cube_3 : decode cX0_cube 3 = .ok (.invokestatic 169, 3) := by decide +kernel
theorem dX0_cube_6 : decode cX0_cube 6 = .ok (.ifCond .eq 21, 3) := by decide +kernel
theorem dX0_cube_9 : decode cX0_cube 9 = .ok (.iload_n 2, 1) := by decide +kernel
theorem dX0_cube_10 : decode cX0_cube 10 = .ok (.iconst 0, 1) := by decide +kernel
theorem dX0_cube_11 : decode cX0_cube 11 = .ok (.iconst 4, 1) := by decide +kernel
theorem dX0_cube_12 : decode cX0_cube 12 = .ok (.invokestatic 169, 3) := by decide +kernel
theorem dX0_cube_15 : decode cX0_cube 15 = .ok (.ifCond .eq 12, 3) := by decide +kernel
theorem dX0_cube_18 : decode cX0_cube 18 = .ok (.iload_n 3, 1) := by decide +kernel
theorem dX0_cube_19 : decode cX0_cube 19 = .ok (.iconst 0, 1) := by decide +kernel
theorem dX0_cube_20 : decode cX0_cube 20 = .ok (.iconst 4, 1) := by decide +kernel
theorem dX0_cube_21 : decode cX0_cube 21 = .ok (.invokestatic 169, 3) := by decide +kernel
theorem dX0_cube_24 : decode cX0_cube 24 = .ok (.ifCond .ne 5, 3) := by decide +kernel
theorem dX0_cube_27 : decode cX0_cube 27 = .ok (.iconst (-1), 1) := by decide +kernel
theorem dX0_cube_28 : decode cX0_cube 28 = .ok (.ireturn, 1) := by decide +kernel
theorem dX0_cube_29 : decode cX0_cube 29 = .ok (.aload_n 0, 1) := by decide +kernel
theorem dX0_cube_30 : decode cX0_cube 30 = .ok (.getfield 100, 3) := by decide +kernel
theorem dX0_cube_33 : decode cX0_cube 33 = .ok (.ifCond .ne 7, 3) := by decide +kernel
theorem dX0_cube_36 : decode cX0_cube 36 = .ok (.iconst 1, 1) := by decide +kernel
theorem dX0_cube_37 : decode cX0_cube 37 = .ok (.goto 4, 3) := by decide +kernel
theorem dX0_cube_40 : decode cX0_cube 40 = .ok (.iconst 0, 1) := by decide +kernel
theorem dX0_cube_41 : decode cX0_cube 41 = .ok (.istore 4, 2) := by decide +kernel
theorem dX0_cube_43 : decode cX0_cube 43 = .ok (.aload_n 0, 1) := by decide +kernel
theorem dX0_cube_44 : decode cX0_cube 44 = .ok (.getfield 13, 3) := by decide +kernel
theorem dX0_cube_47 : decode cX0_cube 47 = .ok (.astore 5, 2) := by decide +kernel
theorem dX0_cube_49 : decode cX0_cube 49 = .ok (.aload 5, 2) := by decide +kernel
theorem dX0_cube_51 : decode cX0_cube 51 = .ok (.arraylength, 1) := by decide +kernel
theorem dX0_cube_52 : decode cX0_cube 52 = .ok (.istore 6, 2) := by decide +kernel
theorem dX0_cube_54 : decode cX0_cube 54 = .ok (.iconst 0, 1) := by decide +kernel
theorem dX0_cube_55 : decode cX0_cube 55 = .ok (.istore 7, 2) := by decide +kernel
theorem dX0_cube_57 : decode cX0_cube 57 = .ok (.iload 7, 2) := by decide +kernel
theorem dX0_cube_59 : decode cX0_cube 59 = .ok (.iload 6, 2) := by decide +kernel
theorem dX0_cube_61 : decode cX0_cube 61 = .ok (.if_icmp .ge 56, 3) := by decide +kernel
theorem dX0_cube_64 : decode cX0_cube 64 = .ok (.aload 5, 2) := by decide +kernel
theorem dX0_cube_66 : decode cX0_cube 66 = .ok (.iload 7, 2) := by decide +kernel
theorem dX0_cube_68 : decode cX0_cube 68 = .ok (.aaload, 1) := by decide +kernel
theorem dX0_cube_69 : decode cX0_cube 69 = .ok (.astore 8, 2) := by decide +kernel
theorem dX0_cube_71 : decode cX0_cube 71 = .ok (.iload 4, 2) := by decide +kernel
theorem dX0_cube_73 : decode cX0_cube 73 = .ok (.aload_n 0, 1) := by decide +kernel
theorem dX0_cube_74 : decode cX0_cube 74 = .ok (.iload_n 1, 1) := by decide +kernel
theorem dX0_cube_75 : decode cX0_cube 75 = .ok (.aload 8, 2) := by decide +kernel
theorem dX0_cube_77 : decode cX0_cube 77 = .ok (.getfield 104, 3) := by decide +kernel
theorem dX0_cube_80 : decode cX0_cube 80 = .ok (.iadd, 1) := by decide +kernel
theorem dX0_cube_81 : decode cX0_cube 81 = .ok (.iload_n 2, 1) := by decide +kernel
theorem dX0_cube_82 : decode cX0_cube 82 = .ok (.aload 8, 2) := by decide +kernel
theorem dX0_cube_84 : decode cX0_cube 84 = .ok (.getfield 107, 3) := by decide +kernel
theorem dX0_cube_87 : decode cX0_cube 87 = .ok (.iadd, 1) := by decide +kernel
theorem dX0_cube_88 : decode cX0_cube 88 = .ok (.iload_n 3, 1) := by decide +kernel
theorem dX0_cube_89 : decode cX0_cube 89 = .ok (.aload 8, 2) := by decide +kernel
theorem dX0_cube_91 : decode cX0_cube 91 = .ok (.getfield 110, 3) := by decide +kernel
theorem dX0_cube_94 : decode cX0_cube 94 = .ok (.iadd, 1) := by decide +kernel
theorem dX0_cube_95 : decode cX0_cube 95 = .ok (.invokevirtual 113, 3) := by decide +kernel
theorem dX0_cube_98 : decode cX0_cube 98 = .ok (.bipush (-9), 2) := by decide +kernel
theorem dX0_cube_100 : decode cX0_cube 100 = .ok (.if_icmp .eq 7, 3) := by decide +kernel
theorem dX0_cube_103 : decode cX0_cube 103 = .ok (.iconst 1, 1) := by decide +kernel
theorem dX0_cube_104 : decode cX0_cube 104 = .ok (.goto 4, 3) := by decide +kernel
theorem dX0_cube_107 : decode cX0_cube 107 = .ok (.iconst 0, 1) := by decide +kernel
theorem dX0_cube_108 : decode cX0_cube 108 = .ok (.ior, 1) := by decide +kernel
theorem dX0_cube_109 : decode cX0_cube 109 = .ok (.istore 4, 2) := by decide +kernel
theorem dX0_cube_111 : decode cX0_cube 111 = .ok (.iinc 7 1, 3) := by decide +kernel
theorem dX0_cube_114 : decode cX0_cube 114 = .ok (.goto (-57), 3) := by decide +kernel
theorem dX0_cube_117 : decode cX0_cube 117 = .ok (.aload_n 0, 1) := by decide +kernel
theorem dX0_cube_118 : decode cX0_cube 118 = .ok (.iload_n 1, 1) := by decide +kernel
theorem dX0_cube_119 : decode cX0_cube 119 = .ok (.iload_n 2, 1) := by decide +kernel
theorem dX0_cube_120 : decode cX0_cube 120 = .ok (.iload_n 3, 1) := by decide +kernel
theorem dX0_cube_121 : decode cX0_cube 121 = .ok (.invokevirtual 113, 3) := by decide +kernel
theorem dX0_cube_124 : decode cX0_cube 124 = .ok (.bipush (-9), 2) := by decide +kernel
theorem dX0_cube_126 : decode cX0_cube 126 = .ok (.if_icmp .ne 8, 3) := by decide +kernel
theorem dX0_cube_129 : decode cX0_cube 129 = .ok (.iload 4, 2) := by decide +kernel
theorem dX0_cube_131 : decode cX0_cube 131 = .ok (.ifCond .ne 6, 3) := by decide +kernel
theorem dX0_cube_134 : decode cX0_cube 134 = .ok (.bipush (-3), 2) := by decide +kernel
theorem dX0_cube_136 : decode cX0_cube 136 = .ok (.ireturn, 1) := by decide +kernel
theorem dX0_cube_137 : decode cX0_cube 137 = .ok (.aload_n 0, 1) := by decide +kernel
theorem dX0_cube_138 : decode cX0_cube 138 = .ok (.getfield 100, 3) := by decide +kernel
theorem dX0_cube_141 : decode cX0_cube 141 = .ok (.iconst 5, 1) := by decide +kernel
theorem dX0_cube_142 : decode cX0_cube 142 = .ok (.if_icmp .ne 6, 3) := by decide +kernel
theorem dX0_cube_145 : decode cX0_cube 145 = .ok (.bipush (-4), 2) := by decide +kernel
theorem dX0_cube_147 : decode cX0_cube 147 = .ok (.ireturn, 1) := by decide +kernel
theorem dX0_cube_148 : decode cX0_cube 148 = .ok (.aload_n 0, 1) := by decide +kernel
theorem dX0_cube_149 : decode cX0_cube 149 = .ok (.getfield 26, 3) := by decide +kernel
theorem dX0_cube_152 : decode cX0_cube 152 = .ok (.aload_n 0, 1) := by decide +kernel
theorem dX0_cube_153 : decode cX0_cube 153 = .ok (.getfield 100, 3) := by decide +kernel
theorem dX0_cube_156 : decode cX0_cube 156 = .ok (.iload_n 1, 1) := by decide +kernel
theorem dX0_cube_157 : decode cX0_cube 157 = .ok (.iastore, 1) := by decide +kernel
theorem dX0_cube_158 : decode cX0_cube 158 = .ok (.aload_n 0, 1) := by decide +kernel
theorem dX0_cube_159 : decode cX0_cube 159 = .ok (.getfield 29, 3) := by decide +kernel
theorem dX0_cube_162 : decode cX0_cube 162 = .ok (.aload_n 0, 1) := by decide +kernel
theorem dX0_cube_163 : decode cX0_cube 163 = .ok (.getfield 100, 3) := by decide +kernel
theorem dX0_cube_166 : decode cX0_cube 166 = .ok (.iload_n 2, 1) := by decide +kernel
theorem dX0_cube_167 : decode cX0_cube 167 = .ok (.iastore, 1) := by decide +kernel
theorem dX0_cube_168 : decode cX0_cube 168 = .ok (.aload_n 0, 1) := by decide +kernel
theorem dX0_cube_169 : decode cX0_cube 169 = .ok (.getfield 32, 3) := by decide +kernel
theorem dX0_cube_172 : decode cX0_cube 172 = .ok (.aload_n 0, 1) := by decide +kernel
theorem dX0_cube_173 : decode cX0_cube 173 = .ok (.getfield 100, 3) := by decide +kernel
theorem dX0_cube_176 : decode cX0_cube 176 = .ok (.iload_n 3, 1) := by decide +kernel
theorem dX0_cube_177 : decode cX0_cube 177 = .ok (.iastore, 1) := by decide +kernel
theorem dX0_cube_178 : decode cX0_cube 178 = .ok (.aload_n 0, 1) := by decide +kernel
theorem dX0_cube_179 : decode cX0_cube 179 = .ok (.dup, 1) := by decide +kernel
theorem dX0_cube_180 : decode cX0_cube 180 = .ok (.getfield 100, 3) := by decide +kernel
theorem dX0_cube_183 : decode cX0_cube 183 = .ok (.iconst 1, 1) := by decide +kernel
theorem dX0_cube_184 : decode cX0_cube 184 = .ok (.iadd, 1) := by decide +kernel
theorem dX0_cube_185 : decode cX0_cube 185 = .ok (.putfield 100, 3) := by decide +kernel
theorem dX0_cube_188 : decode cX0_cube 188 = .ok (.aload_n 0, 1) := by decide +kernel
theorem dX0_cube_189 : decode cX0_cube 189 = .ok (.invokevirtual 97, 3) := by decide +kernel
theorem dX0_cube_192 : decode cX0_cube 192 = .ok (.aload_n 0, 1) := by decide +kernel
theorem dX0_cube_193 : decode cX0_cube 193 = .ok (.getfield 123, 3) := by decide +kernel
theorem dX0_cube_196 : decode cX0_cube 196 = .ok (.ireturn, 1) := by decide +kernel
theorem dX0_in_0 : decode cX0_in 0 = .ok (.iload_n 0, 1) := by decide +kernel
theorem dX0_in_1 : decode cX0_in 1 = .ok (.iload_n 1, 1) := by decide +kernel
theorem dX0_in_2 : decode cX0_in 2 = .ok (.if_icmp .lt 12, 3) := by decide +kernel
theorem dX0_in_5 : decode cX0_in 5 = .ok (.iload_n 0, 1) := by decide +kernel
theorem dX0_in_6 : decode cX0_in 6 = .ok (.iload_n 2, 1) := by decide +kernel
theorem dX0_in_7 : decode cX0_in 7 = .ok (.if_icmp .gt 7, 3) := by decide +kernel
theorem dX0_in_10 : decode cX0_in 10 = .ok (.iconst 1, 1) := by decide +kernel
theorem dX0_in_11 : decode cX0_in 11 = .ok (.goto 4, 3) := by decide +kernel
theorem dX0_in_14 : decode cX0_in 14 = .ok (.iconst 0, 1) := by decide +kernel
theorem dX0_in_15 : decode cX0_in 15 = .ok (.ireturn, 1) := by decide +kernel
theorem dX0_clear_0 : decode cX0_clear 0 = .ok (.aload_n 0, 1) := by decide +kernel
theorem dX0_clear_1 : decode cX0_clear 1 = .ok (.getfield 100, 3) := by decide +kernel
theorem dX0_clear_4 : decode cX0_clear 4 = .ok (.istore_n 1, 1) := by decide +kernel
theorem dX0_clear_5 : decode cX0_clear 5 = .ok (.aload_n 0, 1) := by decide +kernel
theorem dX0_clear_6 : decode cX0_clear 6 = .ok (.iconst 0, 1) := by decide +kernel
theorem dX0_clear_7 : decode cX0_clear 7 = .ok (.putfield 100, 3) := by decide +kernel
theorem dX0_clear_10 : decode cX0_clear 10 = .ok (.aload_n 0, 1) := by decide +kernel
theorem dX0_clear_11 : decode cX0_clear 11 = .ok (.invokevirtual 97, 3) := by decide +kernel
theorem dX0_clear_14 : decode cX0_clear 14 = .ok (.iload_n 1, 1) := by decide +kernel
theorem dX0_clear_15 : decode cX0_clear 15 = .ok (.ireturn, 1) := by decide +kernel
theorem dX0_face_0 : decode cX0_face 0 = .ok (.aload_n 0, 1) := by decide +kernel
theorem dX0_face_1 : decode cX0_face 1 = .ok (.iload_n 1, 1) := by decide +kernel
theorem dX0_face_2 : decode cX0_face 2 = .ok (.invokevirtual 173, 3) := by decide +kernel
theorem dX0_face_5 : decode cX0_face 5 = .ok (.ifCond .ne 7, 3) := by decide +kernel
theorem dX0_face_8 : decode cX0_face 8 = .ok (.iconst (-1), 1) := by decide +kernel
theorem dX0_face_9 : decode cX0_face 9 = .ok (.goto 37, 3) := by decide +kernel
theorem dX0_face_12 : decode cX0_face 12 = .ok (.iload_n 2, 1) := by decide +kernel
theorem dX0_face_13 : decode cX0_face 13 = .ok (.ifCond .ne 15, 3) := by decide +kernel
theorem dX0_face_16 : decode cX0_face 16 = .ok (.aload_n 0, 1) := by decide +kernel
theorem dX0_face_17 : decode cX0_face 17 = .ok (.getfield 37, 3) := by decide +kernel
theorem dX0_face_20 : decode cX0_face 20 = .ok (.iload_n 1, 1) := by decide +kernel
theorem dX0_face_21 : decode cX0_face 21 = .ok (.aaload, 1) := by decide +kernel
theorem dX0_face_22 : decode cX0_face 22 = .ok (.getfield 117, 3) := by decide +kernel
theorem dX0_face_25 : decode cX0_face 25 = .ok (.goto 21, 3) := by decide +kernel
theorem dX0_face_28 : decode cX0_face 28 = .ok (.iload_n 2, 1) := by decide +kernel
theorem dX0_face_29 : decode cX0_face 29 = .ok (.iconst 1, 1) := by decide +kernel
theorem dX0_face_30 : decode cX0_face 30 = .ok (.if_icmp .ne 15, 3) := by decide +kernel
theorem dX0_face_33 : decode cX0_face 33 = .ok (.aload_n 0, 1) := by decide +kernel
theorem dX0_face_34 : decode cX0_face 34 = .ok (.getfield 37, 3) := by decide +kernel
theorem dX0_face_37 : decode cX0_face 37 = .ok (.iload_n 1, 1) := by decide +kernel
theorem dX0_face_38 : decode cX0_face 38 = .ok (.aaload, 1) := by decide +kernel
theorem dX0_face_39 : decode cX0_face 39 = .ok (.getfield 120, 3) := by decide +kernel
theorem dX0_face_42 : decode cX0_face 42 = .ok (.goto 4, 3) := by decide +kernel
theorem dX0_face_45 : decode cX0_face 45 = .ok (.iconst (-1), 1) := by decide +kernel
theorem dX0_face_46 : decode cX0_face 46 = .ok (.ireturn, 1) := by decide +kernel
theorem dX0_isFace_0 : decode cX0_isFace 0 = .ok (.iload_n 1, 1) := by decide +kernel
theorem dX0_isFace_1 : decode cX0_isFace 1 = .ok (.iconst 0, 1) := by decide +kernel
theorem dX0_isFace_2 : decode cX0_isFace 2 = .ok (.aload_n 0, 1) := by decide +kernel
theorem dX0_isFace_3 : decode cX0_isFace 3 = .ok (.getfield 123, 3) := by decide +kernel
theorem dX0_isFace_6 : decode cX0_isFace 6 = .ok (.iconst 1, 1) := by decide +kernel
theorem dX0_isFace_7 : decode cX0_isFace 7 = .ok (.isub, 1) := by decide +kernel
theorem dX0_isFace_8 : decode cX0_isFace 8 = .ok (.invokestatic 169, 3) := by decide +kernel
theorem dX0_isFace_11 : decode cX0_isFace 11 = .ok (.ireturn, 1) := by decide +kernel
theorem dX0_across_0 : decode cX0_across 0 = .ok (.aload_n 0, 1) := by decide +kernel
theorem dX0_across_1 : decode cX0_across 1 = .ok (.iload_n 1, 1) := by decide +kernel
theorem dX0_across_2 : decode cX0_across 2 = .ok (.invokevirtual 173, 3) := by decide +kernel
theorem dX0_across_5 : decode cX0_across 5 = .ok (.ifCond .eq 26, 3) := by decide +kernel
theorem dX0_across_8 : decode cX0_across 8 = .ok (.iload_n 2, 1) := by decide +kernel
theorem dX0_across_9 : decode cX0_across 9 = .ok (.iconst 0, 1) := by decide +kernel
theorem dX0_across_10 : decode cX0_across 10 = .ok (.iconst 5, 1) := by decide +kernel
theorem dX0_across_11 : decode cX0_across 11 = .ok (.invokestatic 169, 3) := by decide +kernel
theorem dX0_across_14 : decode cX0_across 14 = .ok (.ifCond .eq 17, 3) := by decide +kernel
theorem dX0_across_17 : decode cX0_across 17 = .ok (.aload_n 0, 1) := by decide +kernel
theorem dX0_across_18 : decode cX0_across 18 = .ok (.getfield 37, 3) := by decide +kernel
theorem dX0_across_21 : decode cX0_across 21 = .ok (.iload_n 1, 1) := by decide +kernel
theorem dX0_across_22 : decode cX0_across 22 = .ok (.aaload, 1) := by decide +kernel
theorem dX0_across_23 : decode cX0_across 23 = .ok (.getfield 129, 3) := by decide +kernel
theorem dX0_across_26 : decode cX0_across 26 = .ok (.iload_n 2, 1) := by decide +kernel
theorem dX0_across_27 : decode cX0_across 27 = .ok (.iaload, 1) := by decide +kernel
theorem dX0_across_28 : decode cX0_across 28 = .ok (.goto 4, 3) := by decide +kernel
theorem dX0_across_31 : decode cX0_across 31 = .ok (.iconst (-1), 1) := by decide +kernel
theorem dX0_across_32 : decode cX0_across 32 = .ok (.ireturn, 1) := by decide +kernel
theorem dX0_trees_0 : decode cX0_trees 0 = .ok (.aload_n 0, 1) := by decide +kernel
theorem dX0_trees_1 : decode cX0_trees 1 = .ok (.getfield 100, 3) := by decide +kernel
theorem dX0_trees_4 : decode cX0_trees 4 = .ok (.ifCond .ne 7, 3) := by decide +kernel
theorem dX0_trees_7 : decode cX0_trees 7 = .ok (.ldc2_w 191, 3) := by decide +kernel
theorem dX0_trees_10 : decode cX0_trees 10 = .ok (.lreturn, 1) := by decide +kernel
theorem dX0_trees_11 : decode cX0_trees 11 = .ok (.ldc2_w 193, 3) := by decide +kernel
theorem dX0_trees_14 : decode cX0_trees 14 = .ok (.lstore_n 1, 1) := by decide +kernel
theorem dX0_trees_15 : decode cX0_trees 15 = .ok (.ldc2_w 195, 3) := by decide +kernel
theorem dX0_trees_18 : decode cX0_trees 18 = .ok (.lstore_n 3, 1) := by decide +kernel
theorem dX0_trees_19 : decode cX0_trees 19 = .ok (.aload_n 0, 1) := by decide +kernel
theorem dX0_trees_20 : decode cX0_trees 20 = .ok (.lload_n 1, 1) := by decide +kernel
theorem dX0_trees_21 : decode cX0_trees 21 = .ok (.invokevirtual 197, 3) := by decide +kernel
theorem dX0_trees_24 : decode cX0_trees 24 = .ok (.lstore 5, 2) := by decide +kernel
theorem dX0_trees_26 : decode cX0_trees 26 = .ok (.aload_n 0, 1) := by decide +kernel
theorem dX0_trees_27 : decode cX0_trees 27 = .ok (.lload_n 3, 1) := by decide +kernel
theorem dX0_trees_28 : decode cX0_trees 28 = .ok (.invokevirtual 197, 3) := by decide +kernel
theorem dX0_trees_31 : decode cX0_trees 31 = .ok (.lstore 7, 2) := by decide +kernel
theorem dX0_trees_33 : decode cX0_trees 33 = .ok (.lload 7, 2) := by decide +kernel
theorem dX0_trees_35 : decode cX0_trees 35 = .ok (.lload 5, 2) := by decide +kernel
theorem dX0_trees_37 : decode cX0_trees 37 = .ok (.lload_n 3, 1) := by decide +kernel
theorem dX0_trees_38 : decode cX0_trees 38 = .ok (.lrem, 1) := by decide +kernel
theorem dX0_trees_39 : decode cX0_trees 39 = .ok (.lsub, 1) := by decide +kernel
theorem dX0_trees_40 : decode cX0_trees 40 = .ok (.lload_n 3, 1) := by decide +kernel
theorem dX0_trees_41 : decode cX0_trees 41 = .ok (.ladd, 1) := by decide +kernel
theorem dX0_trees_42 : decode cX0_trees 42 = .ok (.lload_n 3, 1) := by decide +kernel
theorem dX0_trees_43 : decode cX0_trees 43 = .ok (.lrem, 1) := by decide +kernel
theorem dX0_trees_44 : decode cX0_trees 44 = .ok (.lload_n 1, 1) := by decide +kernel
theorem dX0_trees_45 : decode cX0_trees 45 = .ok (.lload_n 3, 1) := by decide +kernel
theorem dX0_trees_46 : decode cX0_trees 46 = .ok (.lrem, 1) := by decide +kernel
theorem dX0_trees_47 : decode cX0_trees 47 = .ok (.lload_n 3, 1) := by decide +kernel
theorem dX0_trees_48 : decode cX0_trees 48 = .ok (.ldc2_w 185, 3) := by decide +kernel
theorem dX0_trees_51 : decode cX0_trees 51 = .ok (.lsub, 1) := by decide +kernel
theorem dX0_trees_52 : decode cX0_trees 52 = .ok (.lload_n 3, 1) := by decide +kernel
theorem dX0_trees_53 : decode cX0_trees 53 = .ok (.invokestatic 187, 3) := by decide +kernel
theorem dX0_trees_56 : decode cX0_trees 56 = .ok (.lmul, 1) := by decide +kernel
theorem dX0_trees_57 : decode cX0_trees 57 = .ok (.lload_n 3, 1) := by decide +kernel
theorem dX0_trees_58 : decode cX0_trees 58 = .ok (.lrem, 1) := by decide +kernel
theorem dX0_trees_59 : decode cX0_trees 59 = .ok (.lstore 9, 2) := by decide +kernel
theorem dX0_trees_61 : decode cX0_trees 61 = .ok (.lload 5, 2) := by decide +kernel
theorem dX0_trees_63 : decode cX0_trees 63 = .ok (.lload 9, 2) := by decide +kernel
theorem dX0_trees_65 : decode cX0_trees 65 = .ok (.lload_n 1, 1) := by decide +kernel
theorem dX0_trees_66 : decode cX0_trees 66 = .ok (.lmul, 1) := by decide +kernel
theorem dX0_trees_67 : decode cX0_trees 67 = .ok (.ladd, 1) := by decide +kernel
theorem dX0_trees_68 : decode cX0_trees 68 = .ok (.lreturn, 1) := by decide +kernel
theorem dX0_treesBy_0 : decode cX0_treesBy 0 = .ok (.aload_n 0, 1) := by decide +kernel
theorem dX0_treesBy_1 : decode cX0_treesBy 1 = .ok (.getfield 123, 3) := by decide +kernel
theorem dX0_treesBy_4 : decode cX0_treesBy 4 = .ok (.iconst 1, 1) := by decide +kernel
theorem dX0_treesBy_5 : decode cX0_treesBy 5 = .ok (.isub, 1) := by decide +kernel
theorem dX0_treesBy_6 : decode cX0_treesBy 6 = .ok (.istore_n 3, 1) := by decide +kernel
theorem dX0_treesBy_7 : decode cX0_treesBy 7 = .ok (.iconst 0, 1) := by decide +kernel
theorem dX0_treesBy_8 : decode cX0_treesBy 8 = .ok (.istore 4, 2) := by decide +kernel
theorem dX0_treesBy_10 : decode cX0_treesBy 10 = .ok (.iload 4, 2) := by decide +kernel
theorem dX0_treesBy_12 : decode cX0_treesBy 12 = .ok (.iload_n 3, 1) := by decide +kernel
theorem dX0_treesBy_13 : decode cX0_treesBy 13 = .ok (.if_icmp .ge 101, 3) := by decide +kernel
theorem dX0_treesBy_16 : decode cX0_treesBy 16 = .ok (.aload_n 0, 1) := by decide +kernel
theorem dX0_treesBy_17 : decode cX0_treesBy 17 = .ok (.getfield 43, 3) := by decide +kernel
theorem dX0_treesBy_20 : decode cX0_treesBy 20 = .ok (.iload 4, 2) := by decide +kernel
theorem dX0_treesBy_22 : decode cX0_treesBy 22 = .ok (.aaload, 1) := by decide +kernel
theorem dX0_treesBy_23 : decode cX0_treesBy 23 = .ok (.lconst 0, 1) := by decide +kernel
theorem dX0_treesBy_24 : decode cX0_treesBy 24 = .ok (.invokestatic 177, 3) := by decide +kernel
theorem dX0_treesBy_27 : decode cX0_treesBy 27 = .ok (.aload_n 0, 1) := by decide +kernel
theorem dX0_treesBy_28 : decode cX0_treesBy 28 = .ok (.getfield 43, 3) := by decide +kernel
theorem dX0_treesBy_31 : decode cX0_treesBy 31 = .ok (.iload 4, 2) := by decide +kernel
theorem dX0_treesBy_33 : decode cX0_treesBy 33 = .ok (.aaload, 1) := by decide +kernel
theorem dX0_treesBy_34 : decode cX0_treesBy 34 = .ok (.iload 4, 2) := by decide +kernel
theorem dX0_treesBy_36 : decode cX0_treesBy 36 = .ok (.ldc2_w 183, 3) := by decide +kernel
theorem dX0_treesBy_39 : decode cX0_treesBy 39 = .ok (.lastore, 1) := by decide +kernel
theorem dX0_treesBy_40 : decode cX0_treesBy 40 = .ok (.iconst 0, 1) := by decide +kernel
theorem dX0_treesBy_41 : decode cX0_treesBy 41 = .ok (.istore 5, 2) := by decide +kernel
theorem dX0_treesBy_43 : decode cX0_treesBy 43 = .ok (.iload 5, 2) := by decide +kernel
theorem dX0_treesBy_45 : decode cX0_treesBy 45 = .ok (.bipush 6, 2) := by decide +kernel
theorem dX0_treesBy_47 : decode cX0_treesBy 47 = .ok (.if_icmp .ge 61, 3) := by decide +kernel
theorem dX0_treesBy_50 : decode cX0_treesBy 50 = .ok (.aload_n 0, 1) := by decide +kernel
theorem dX0_treesBy_51 : decode cX0_treesBy 51 = .ok (.getfield 37, 3) := by decide +kernel
theorem dX0_treesBy_54 : decode cX0_treesBy 54 = .ok (.iload 4, 2) := by decide +kernel
theorem dX0_treesBy_56 : decode cX0_treesBy 56 = .ok (.aaload, 1) := by decide +kernel
theorem dX0_treesBy_57 : decode cX0_treesBy 57 = .ok (.getfield 129, 3) := by decide +kernel
theorem dX0_treesBy_60 : decode cX0_treesBy 60 = .ok (.iload 5, 2) := by decide +kernel
theorem dX0_treesBy_62 : decode cX0_treesBy 62 = .ok (.iaload, 1) := by decide +kernel
theorem dX0_treesBy_63 : decode cX0_treesBy 63 = .ok (.istore 6, 2) := by decide +kernel
theorem dX0_treesBy_65 : decode cX0_treesBy 65 = .ok (.iload 6, 2) := by decide +kernel
theorem dX0_treesBy_67 : decode cX0_treesBy 67 = .ok (.ifCond .lt 35, 3) := by decide +kernel
theorem dX0_treesBy_70 : decode cX0_treesBy 70 = .ok (.iload 6, 2) := by decide +kernel
theorem dX0_treesBy_72 : decode cX0_treesBy 72 = .ok (.iload_n 3, 1) := by decide +kernel
theorem dX0_treesBy_73 : decode cX0_treesBy 73 = .ok (.if_icmp .ge 29, 3) := by decide +kernel
theorem dX0_treesBy_76 : decode cX0_treesBy 76 = .ok (.aload_n 0, 1) := by decide +kernel
theorem dX0_treesBy_77 : decode cX0_treesBy 77 = .ok (.getfield 43, 3) := by decide +kernel
theorem dX0_treesBy_80 : decode cX0_treesBy 80 = .ok (.iload 4, 2) := by decide +kernel
theorem dX0_treesBy_82 : decode cX0_treesBy 82 = .ok (.aaload, 1) := by decide +kernel
theorem dX0_treesBy_83 : decode cX0_treesBy 83 = .ok (.iload 6, 2) := by decide +kernel
theorem dX0_treesBy_85 : decode cX0_treesBy 85 = .ok (.aload_n 0, 1) := by decide +kernel
theorem dX0_treesBy_86 : decode cX0_treesBy 86 = .ok (.getfield 43, 3) := by decide +kernel
theorem dX0_treesBy_89 : decode cX0_treesBy 89 = .ok (.iload 4, 2) := by decide +kernel
theorem dX0_treesBy_91 : decode cX0_treesBy 91 = .ok (.aaload, 1) := by decide +kernel
theorem dX0_treesBy_92 : decode cX0_treesBy 92 = .ok (.iload 6, 2) := by decide +kernel
theorem dX0_treesBy_94 : decode cX0_treesBy 94 = .ok (.laload, 1) := by decide +kernel
theorem dX0_treesBy_95 : decode cX0_treesBy 95 = .ok (.lload_n 1, 1) := by decide +kernel
theorem dX0_treesBy_96 : decode cX0_treesBy 96 = .ok (.ladd, 1) := by decide +kernel
theorem dX0_treesBy_97 : decode cX0_treesBy 97 = .ok (.lconst 1, 1) := by decide +kernel
theorem dX0_treesBy_98 : decode cX0_treesBy 98 = .ok (.lsub, 1) := by decide +kernel
theorem dX0_treesBy_99 : decode cX0_treesBy 99 = .ok (.lload_n 1, 1) := by decide +kernel
theorem dX0_treesBy_100 : decode cX0_treesBy 100 = .ok (.lrem, 1) := by decide +kernel
theorem dX0_treesBy_101 : decode cX0_treesBy 101 = .ok (.lastore, 1) := by decide +kernel
theorem dX0_treesBy_102 : decode cX0_treesBy 102 = .ok (.iinc 5 1, 3) := by decide +kernel
theorem dX0_treesBy_105 : decode cX0_treesBy 105 = .ok (.goto (-62), 3) := by decide +kernel
theorem dX0_treesBy_108 : decode cX0_treesBy 108 = .ok (.iinc 4 1, 3) := by decide +kernel
theorem dX0_treesBy_111 : decode cX0_treesBy 111 = .ok (.goto (-101), 3) := by decide +kernel
theorem dX0_treesBy_114 : decode cX0_treesBy 114 = .ok (.lconst 1, 1) := by decide +kernel
theorem dX0_treesBy_115 : decode cX0_treesBy 115 = .ok (.lstore 4, 2) := by decide +kernel
theorem dX0_treesBy_117 : decode cX0_treesBy 117 = .ok (.iconst 0, 1) := by decide +kernel
theorem dX0_treesBy_118 : decode cX0_treesBy 118 = .ok (.istore 6, 2) := by decide +kernel
theorem dX0_treesBy_120 : decode cX0_treesBy 120 = .ok (.iload 6, 2) := by decide +kernel
theorem dX0_treesBy_122 : decode cX0_treesBy 122 = .ok (.iload_n 3, 1) := by decide +kernel
theorem dX0_treesBy_123 : decode cX0_treesBy 123 = .ok (.if_icmp .ge 220, 3) := by decide +kernel
theorem dX0_treesBy_126 : decode cX0_treesBy 126 = .ok (.iload 6, 2) := by decide +kernel
theorem dX0_treesBy_128 : decode cX0_treesBy 128 = .ok (.istore 7, 2) := by decide +kernel
theorem dX0_treesBy_130 : decode cX0_treesBy 130 = .ok (.iload 7, 2) := by decide +kernel
theorem dX0_treesBy_132 : decode cX0_treesBy 132 = .ok (.iload_n 3, 1) := by decide +kernel
theorem dX0_treesBy_133 : decode cX0_treesBy 133 = .ok (.if_icmp .ge 24, 3) := by decide +kernel
theorem dX0_treesBy_136 : decode cX0_treesBy 136 = .ok (.aload_n 0, 1) := by decide +kernel
theorem dX0_treesBy_137 : decode cX0_treesBy 137 = .ok (.getfield 43, 3) := by decide +kernel
theorem dX0_treesBy_140 : decode cX0_treesBy 140 = .ok (.iload 7, 2) := by decide +kernel
theorem dX0_treesBy_142 : decode cX0_treesBy 142 = .ok (.aaload, 1) := by decide +kernel
theorem dX0_treesBy_143 : decode cX0_treesBy 143 = .ok (.iload 6, 2) := by decide +kernel
theorem dX0_treesBy_145 : decode cX0_treesBy 145 = .ok (.laload, 1) := by decide +kernel
theorem dX0_treesBy_146 : decode cX0_treesBy 146 = .ok (.lconst 0, 1) := by decide +kernel
theorem dX0_treesBy_147 : decode cX0_treesBy 147 = .ok (.lcmp, 1) := by decide +kernel
theorem dX0_treesBy_148 : decode cX0_treesBy 148 = .ok (.ifCond .ne 9, 3) := by decide +kernel
theorem dX0_treesBy_151 : decode cX0_treesBy 151 = .ok (.iinc 7 1, 3) := by decide +kernel
theorem dX0_treesBy_154 : decode cX0_treesBy 154 = .ok (.goto (-24), 3) := by decide +kernel
theorem dX0_treesBy_157 : decode cX0_treesBy 157 = .ok (.iload 7, 2) := by decide +kernel
theorem dX0_treesBy_159 : decode cX0_treesBy 159 = .ok (.iload_n 3, 1) := by decide +kernel
theorem dX0_treesBy_160 : decode cX0_treesBy 160 = .ok (.if_icmp .ne 5, 3) := by decide +kernel
theorem dX0_treesBy_163 : decode cX0_treesBy 163 = .ok (.lconst 0, 1) := by decide +kernel
theorem dX0_treesBy_164 : decode cX0_treesBy 164 = .ok (.lreturn, 1) := by decide +kernel
theorem dX0_treesBy_165 : decode cX0_treesBy 165 = .ok (.iload 7, 2) := by decide +kernel
theorem dX0_treesBy_167 : decode cX0_treesBy 167 = .ok (.iload 6, 2) := by decide +kernel
theorem dX0_treesBy_169 : decode cX0_treesBy 169 = .ok (.if_icmp .eq 41, 3) := by decide +kernel
theorem dX0_treesBy_172 : decode cX0_treesBy 172 = .ok (.aload_n 0, 1) := by decide +kernel
theorem dX0_treesBy_173 : decode cX0_treesBy 173 = .ok (.getfield 43, 3) := by decide +kernel
theorem dX0_treesBy_176 : decode cX0_treesBy 176 = .ok (.iload 6, 2) := by decide +kernel
theorem dX0_treesBy_178 : decode cX0_treesBy 178 = .ok (.aaload, 1) := by decide +kernel
theorem dX0_treesBy_179 : decode cX0_treesBy 179 = .ok (.astore 8, 2) := by decide +kernel
theorem dX0_treesBy_181 : decode cX0_treesBy 181 = .ok (.aload_n 0, 1) := by decide +kernel
theorem dX0_treesBy_182 : decode cX0_treesBy 182 = .ok (.getfield 43, 3) := by decide +kernel
theorem dX0_treesBy_185 : decode cX0_treesBy 185 = .ok (.iload 6, 2) := by decide +kernel
theorem dX0_treesBy_187 : decode cX0_treesBy 187 = .ok (.aload_n 0, 1) := by decide +kernel
theorem dX0_treesBy_188 : decode cX0_treesBy 188 = .ok (.getfield 43, 3) := by decide +kernel
theorem dX0_treesBy_191 : decode cX0_treesBy 191 = .ok (.iload 7, 2) := by decide +kernel
theorem dX0_treesBy_193 : decode cX0_treesBy 193 = .ok (.aaload, 1) := by decide +kernel
theorem dX0_treesBy_194 : decode cX0_treesBy 194 = .ok (.aastore, 1) := by decide +kernel
theorem dX0_treesBy_195 : decode cX0_treesBy 195 = .ok (.aload_n 0, 1) := by decide +kernel
theorem dX0_treesBy_196 : decode cX0_treesBy 196 = .ok (.getfield 43, 3) := by decide +kernel
theorem dX0_treesBy_199 : decode cX0_treesBy 199 = .ok (.iload 7, 2) := by decide +kernel
theorem dX0_treesBy_201 : decode cX0_treesBy 201 = .ok (.aload 8, 2) := by decide +kernel
theorem dX0_treesBy_203 : decode cX0_treesBy 203 = .ok (.aastore, 1) := by decide +kernel
theorem dX0_treesBy_204 : decode cX0_treesBy 204 = .ok (.lload_n 1, 1) := by decide +kernel
theorem dX0_treesBy_205 : decode cX0_treesBy 205 = .ok (.lload 4, 2) := by decide +kernel
theorem dX0_treesBy_207 : decode cX0_treesBy 207 = .ok (.lsub, 1) := by decide +kernel
theorem dX0_treesBy_208 : decode cX0_treesBy 208 = .ok (.lstore 4, 2) := by decide +kernel
theorem dX0_treesBy_210 : decode cX0_treesBy 210 = .ok (.lload 4, 2) := by decide +kernel
theorem dX0_treesBy_212 : decode cX0_treesBy 212 = .ok (.aload_n 0, 1) := by decide +kernel
theorem dX0_treesBy_213 : decode cX0_treesBy 213 = .ok (.getfield 43, 3) := by decide +kernel
theorem dX0_treesBy_216 : decode cX0_treesBy 216 = .ok (.iload 6, 2) := by decide +kernel
theorem dX0_treesBy_218 : decode cX0_treesBy 218 = .ok (.aaload, 1) := by decide +kernel
theorem dX0_treesBy_219 : decode cX0_treesBy 219 = .ok (.iload 6, 2) := by decide +kernel
theorem dX0_treesBy_221 : decode cX0_treesBy 221 = .ok (.laload, 1) := by decide +kernel
theorem dX0_treesBy_222 : decode cX0_treesBy 222 = .ok (.lmul, 1) := by decide +kernel
theorem dX0_treesBy_223 : decode cX0_treesBy 223 = .ok (.lload_n 1, 1) := by decide +kernel
theorem dX0_treesBy_224 : decode cX0_treesBy 224 = .ok (.lrem, 1) := by decide +kernel
theorem dX0_treesBy_225 : decode cX0_treesBy 225 = .ok (.lstore 4, 2) := by decide +kernel
theorem dX0_treesBy_227 : decode cX0_treesBy 227 = .ok (.aload_n 0, 1) := by decide +kernel
theorem dX0_treesBy_228 : decode cX0_treesBy 228 = .ok (.getfield 43, 3) := by decide +kernel
theorem dX0_treesBy_231 : decode cX0_treesBy 231 = .ok (.iload 6, 2) := by decide +kernel
theorem dX0_treesBy_233 : decode cX0_treesBy 233 = .ok (.aaload, 1) := by decide +kernel
theorem dX0_treesBy_234 : decode cX0_treesBy 234 = .ok (.iload 6, 2) := by decide +kernel
theorem dX0_treesBy_236 : decode cX0_treesBy 236 = .ok (.laload, 1) := by decide +kernel
theorem dX0_treesBy_237 : decode cX0_treesBy 237 = .ok (.lload_n 1, 1) := by decide +kernel
theorem dX0_treesBy_238 : decode cX0_treesBy 238 = .ok (.ldc2_w 185, 3) := by decide +kernel
theorem dX0_treesBy_241 : decode cX0_treesBy 241 = .ok (.lsub, 1) := by decide +kernel
theorem dX0_treesBy_242 : decode cX0_treesBy 242 = .ok (.lload_n 1, 1) := by decide +kernel
theorem dX0_treesBy_243 : decode cX0_treesBy 243 = .ok (.invokestatic 187, 3) := by decide +kernel
theorem dX0_treesBy_246 : decode cX0_treesBy 246 = .ok (.lstore 8, 2) := by decide +kernel
theorem dX0_treesBy_248 : decode cX0_treesBy 248 = .ok (.iload 6, 2) := by decide +kernel
theorem dX0_treesBy_250 : decode cX0_treesBy 250 = .ok (.iconst 1, 1) := by decide +kernel
theorem dX0_treesBy_251 : decode cX0_treesBy 251 = .ok (.iadd, 1) := by decide +kernel
theorem dX0_treesBy_252 : decode cX0_treesBy 252 = .ok (.istore 10, 2) := by decide +kernel
theorem dX0_treesBy_254 : decode cX0_treesBy 254 = .ok (.iload 10, 2) := by decide +kernel
theorem dX0_treesBy_256 : decode cX0_treesBy 256 = .ok (.iload_n 3, 1) := by decide +kernel
theorem dX0_treesBy_257 : decode cX0_treesBy 257 = .ok (.if_icmp .ge 80, 3) := by decide +kernel
theorem dX0_treesBy_260 : decode cX0_treesBy 260 = .ok (.aload_n 0, 1) := by decide +kernel
theorem dX0_treesBy_261 : decode cX0_treesBy 261 = .ok (.getfield 43, 3) := by decide +kernel
theorem dX0_treesBy_264 : decode cX0_treesBy 264 = .ok (.iload 10, 2) := by decide +kernel
theorem dX0_treesBy_266 : decode cX0_treesBy 266 = .ok (.aaload, 1) := by decide +kernel
theorem dX0_treesBy_267 : decode cX0_treesBy 267 = .ok (.iload 6, 2) := by decide +kernel
theorem dX0_treesBy_269 : decode cX0_treesBy 269 = .ok (.laload, 1) := by decide +kernel
theorem dX0_treesBy_270 : decode cX0_treesBy 270 = .ok (.lload 8, 2) := by decide +kernel
theorem dX0_treesBy_272 : decode cX0_treesBy 272 = .ok (.lmul, 1) := by decide +kernel
theorem dX0_treesBy_273 : decode cX0_treesBy 273 = .ok (.lload_n 1, 1) := by decide +kernel
theorem dX0_treesBy_274 : decode cX0_treesBy 274 = .ok (.lrem, 1) := by decide +kernel
theorem dX0_treesBy_275 : decode cX0_treesBy 275 = .ok (.lstore 11, 2) := by decide +kernel
theorem dX0_treesBy_277 : decode cX0_treesBy 277 = .ok (.iload 6, 2) := by decide +kernel
theorem dX0_treesBy_279 : decode cX0_treesBy 279 = .ok (.istore 13, 2) := by decide +kernel
theorem dX0_treesBy_281 : decode cX0_treesBy 281 = .ok (.iload 13, 2) := by decide +kernel
theorem dX0_treesBy_283 : decode cX0_treesBy 283 = .ok (.iload_n 3, 1) := by decide +kernel
theorem dX0_treesBy_284 : decode cX0_treesBy 284 = .ok (.if_icmp .ge 47, 3) := by decide +kernel
theorem dX0_treesBy_287 : decode cX0_treesBy 287 = .ok (.aload_n 0, 1) := by decide +kernel
theorem dX0_treesBy_288 : decode cX0_treesBy 288 = .ok (.getfield 43, 3) := by decide +kernel
theorem dX0_treesBy_291 : decode cX0_treesBy 291 = .ok (.iload 10, 2) := by decide +kernel
theorem dX0_treesBy_293 : decode cX0_treesBy 293 = .ok (.aaload, 1) := by decide +kernel
theorem dX0_treesBy_294 : decode cX0_treesBy 294 = .ok (.iload 13, 2) := by decide +kernel
theorem dX0_treesBy_296 : decode cX0_treesBy 296 = .ok (.aload_n 0, 1) := by decide +kernel
theorem dX0_treesBy_297 : decode cX0_treesBy 297 = .ok (.getfield 43, 3) := by decide +kernel
theorem dX0_treesBy_300 : decode cX0_treesBy 300 = .ok (.iload 10, 2) := by decide +kernel
theorem dX0_treesBy_302 : decode cX0_treesBy 302 = .ok (.aaload, 1) := by decide +kernel
theorem dX0_treesBy_303 : decode cX0_treesBy 303 = .ok (.iload 13, 2) := by decide +kernel
theorem dX0_treesBy_305 : decode cX0_treesBy 305 = .ok (.laload, 1) := by decide +kernel
theorem dX0_treesBy_306 : decode cX0_treesBy 306 = .ok (.lload_n 1, 1) := by decide +kernel
theorem dX0_treesBy_307 : decode cX0_treesBy 307 = .ok (.lload 11, 2) := by decide +kernel
theorem dX0_treesBy_309 : decode cX0_treesBy 309 = .ok (.lsub, 1) := by decide +kernel
theorem dX0_treesBy_310 : decode cX0_treesBy 310 = .ok (.aload_n 0, 1) := by decide +kernel
theorem dX0_treesBy_311 : decode cX0_treesBy 311 = .ok (.getfield 43, 3) := by decide +kernel
theorem dX0_treesBy_314 : decode cX0_treesBy 314 = .ok (.iload 6, 2) := by decide +kernel
theorem dX0_treesBy_316 : decode cX0_treesBy 316 = .ok (.aaload, 1) := by decide +kernel
theorem dX0_treesBy_317 : decode cX0_treesBy 317 = .ok (.iload 13, 2) := by decide +kernel
theorem dX0_treesBy_319 : decode cX0_treesBy 319 = .ok (.laload, 1) := by decide +kernel
theorem dX0_treesBy_320 : decode cX0_treesBy 320 = .ok (.lmul, 1) := by decide +kernel
theorem dX0_treesBy_321 : decode cX0_treesBy 321 = .ok (.ladd, 1) := by decide +kernel
theorem dX0_treesBy_322 : decode cX0_treesBy 322 = .ok (.lload_n 1, 1) := by decide +kernel
theorem dX0_treesBy_323 : decode cX0_treesBy 323 = .ok (.lrem, 1) := by decide +kernel
theorem dX0_treesBy_324 : decode cX0_treesBy 324 = .ok (.lastore, 1) := by decide +kernel
theorem dX0_treesBy_325 : decode cX0_treesBy 325 = .ok (.iinc 13 1, 3) := by decide +kernel
theorem dX0_treesBy_328 : decode cX0_treesBy 328 = .ok (.goto (-47), 3) := by decide +kernel
theorem dX0_treesBy_331 : decode cX0_treesBy 331 = .ok (.iinc 10 1, 3) := by decide +kernel
theorem dX0_treesBy_334 : decode cX0_treesBy 334 = .ok (.goto (-80), 3) := by decide +kernel
theorem dX0_treesBy_337 : decode cX0_treesBy 337 = .ok (.iinc 6 1, 3) := by decide +kernel
theorem dX0_treesBy_340 : decode cX0_treesBy 340 = .ok (.goto (-220), 3) := by decide +kernel
theorem dX0_treesBy_343 : decode cX0_treesBy 343 = .ok (.lload 4, 2) := by decide +kernel
theorem dX0_treesBy_345 : decode cX0_treesBy 345 = .ok (.lload_n 1, 1) := by decide +kernel
theorem dX0_treesBy_346 : decode cX0_treesBy 346 = .ok (.lrem, 1) := by decide +kernel
theorem dX0_treesBy_347 : decode cX0_treesBy 347 = .ok (.lreturn, 1) := by decide +kernel
theorem dX0_power_0 : decode cX0_power 0 = .ok (.lconst 1, 1) := by decide +kernel
theorem dX0_power_1 : decode cX0_power 1 = .ok (.lstore 6, 2) := by decide +kernel
theorem dX0_power_3 : decode cX0_power 3 = .ok (.lload_n 0, 1) := by decide +kernel
theorem dX0_power_4 : decode cX0_power 4 = .ok (.lstore 8, 2) := by decide +kernel
theorem dX0_power_6 : decode cX0_power 6 = .ok (.lload_n 2, 1) := by decide +kernel
theorem dX0_power_7 : decode cX0_power 7 = .ok (.lstore 10, 2) := by decide +kernel
theorem dX0_power_9 : decode cX0_power 9 = .ok (.lload 10, 2) := by decide +kernel
theorem dX0_power_11 : decode cX0_power 11 = .ok (.lconst 0, 1) := by decide +kernel
theorem dX0_power_12 : decode cX0_power 12 = .ok (.lcmp, 1) := by decide +kernel
theorem dX0_power_13 : decode cX0_power 13 = .ok (.ifCond .le 46, 3) := by decide +kernel
theorem dX0_power_16 : decode cX0_power 16 = .ok (.lload 10, 2) := by decide +kernel
theorem dX0_power_18 : decode cX0_power 18 = .ok (.lconst 1, 1) := by decide +kernel
theorem dX0_power_19 : decode cX0_power 19 = .ok (.land, 1) := by decide +kernel
theorem dX0_power_20 : decode cX0_power 20 = .ok (.lconst 1, 1) := by decide +kernel
theorem dX0_power_21 : decode cX0_power 21 = .ok (.lcmp, 1) := by decide +kernel
theorem dX0_power_22 : decode cX0_power 22 = .ok (.ifCond .ne 14, 3) := by decide +kernel
theorem dX0_power_25 : decode cX0_power 25 = .ok (.lload 6, 2) := by decide +kernel
theorem dX0_power_27 : decode cX0_power 27 = .ok (.lload 8, 2) := by decide +kernel
theorem dX0_power_29 : decode cX0_power 29 = .ok (.lmul, 1) := by decide +kernel
theorem dX0_power_30 : decode cX0_power 30 = .ok (.lload 4, 2) := by decide +kernel
theorem dX0_power_32 : decode cX0_power 32 = .ok (.lrem, 1) := by decide +kernel
theorem dX0_power_33 : decode cX0_power 33 = .ok (.goto 5, 3) := by decide +kernel
theorem dX0_power_36 : decode cX0_power 36 = .ok (.lload 6, 2) := by decide +kernel
theorem dX0_power_38 : decode cX0_power 38 = .ok (.lstore 6, 2) := by decide +kernel
theorem dX0_power_40 : decode cX0_power 40 = .ok (.lload 8, 2) := by decide +kernel
theorem dX0_power_42 : decode cX0_power 42 = .ok (.lload 8, 2) := by decide +kernel
theorem dX0_power_44 : decode cX0_power 44 = .ok (.lmul, 1) := by decide +kernel
theorem dX0_power_45 : decode cX0_power 45 = .ok (.lload 4, 2) := by decide +kernel
theorem dX0_power_47 : decode cX0_power 47 = .ok (.lrem, 1) := by decide +kernel
theorem dX0_power_48 : decode cX0_power 48 = .ok (.lstore 8, 2) := by decide +kernel
theorem dX0_power_50 : decode cX0_power 50 = .ok (.lload 10, 2) := by decide +kernel
theorem dX0_power_52 : decode cX0_power 52 = .ok (.iconst 1, 1) := by decide +kernel
theorem dX0_power_53 : decode cX0_power 53 = .ok (.lshr, 1) := by decide +kernel
theorem dX0_power_54 : decode cX0_power 54 = .ok (.lstore 10, 2) := by decide +kernel
theorem dX0_power_56 : decode cX0_power 56 = .ok (.goto (-47), 3) := by decide +kernel
theorem dX0_power_59 : decode cX0_power 59 = .ok (.lload 6, 2) := by decide +kernel
theorem dX0_power_61 : decode cX0_power 61 = .ok (.lreturn, 1) := by decide +kernel
theorem dX0_lay_0 : decode cX0_lay 0 = .ok (.aload_n 0, 1) := by decide +kernel
theorem dX0_lay_1 : decode cX0_lay 1 = .ok (.iload_n 1, 1) := by decide +kernel
theorem dX0_lay_2 : decode cX0_lay 2 = .ok (.invokevirtual 173, 3) := by decide +kernel
theorem dX0_lay_5 : decode cX0_lay 5 = .ok (.ifCond .ne 5, 3) := by decide +kernel
theorem dX0_lay_8 : decode cX0_lay 8 = .ok (.iconst (-1), 1) := by decide +kernel
theorem dX0_lay_9 : decode cX0_lay 9 = .ok (.ireturn, 1) := by decide +kernel
theorem dX0_lay_10 : decode cX0_lay 10 = .ok (.aload_n 0, 1) := by decide +kernel
theorem dX0_lay_11 : decode cX0_lay 11 = .ok (.getfield 51, 3) := by decide +kernel
theorem dX0_lay_14 : decode cX0_lay 14 = .ok (.invokevirtual 136, 3) := by decide +kernel
theorem dX0_lay_17 : decode cX0_lay 17 = .ok (.aload_n 0, 1) := by decide +kernel
theorem dX0_lay_18 : decode cX0_lay 18 = .ok (.getfield 51, 3) := by decide +kernel
theorem dX0_lay_21 : decode cX0_lay 21 = .ok (.iload_n 1, 1) := by decide +kernel
theorem dX0_lay_22 : decode cX0_lay 22 = .ok (.invokevirtual 158, 3) := by decide +kernel
theorem dX0_lay_25 : decode cX0_lay 25 = .ok (.iconst 0, 1) := by decide +kernel
theorem dX0_lay_26 : decode cX0_lay 26 = .ok (.ireturn, 1) := by decide +kernel
theorem dX0_grow_0 : decode cX0_grow 0 = .ok (.aload_n 0, 1) := by decide +kernel
theorem dX0_grow_1 : decode cX0_grow 1 = .ok (.iload_n 1, 1) := by decide +kernel
theorem dX0_grow_2 : decode cX0_grow 2 = .ok (.invokevirtual 173, 3) := by decide +kernel
theorem dX0_grow_5 : decode cX0_grow 5 = .ok (.ifCond .eq 12, 3) := by decide +kernel
theorem dX0_grow_8 : decode cX0_grow 8 = .ok (.iload_n 2, 1) := by decide +kernel
theorem dX0_grow_9 : decode cX0_grow 9 = .ok (.iconst 0, 1) := by decide +kernel
theorem dX0_grow_10 : decode cX0_grow 10 = .ok (.iconst 3, 1) := by decide +kernel
theorem dX0_grow_11 : decode cX0_grow 11 = .ok (.invokestatic 169, 3) := by decide +kernel
theorem dX0_grow_14 : decode cX0_grow 14 = .ok (.ifCond .ne 5, 3) := by decide +kernel
theorem dX0_grow_17 : decode cX0_grow 17 = .ok (.iconst (-1), 1) := by decide +kernel
theorem dX0_grow_18 : decode cX0_grow 18 = .ok (.ireturn, 1) := by decide +kernel
theorem dX0_grow_19 : decode cX0_grow 19 = .ok (.aload_n 0, 1) := by decide +kernel
theorem dX0_grow_20 : decode cX0_grow 20 = .ok (.getfield 51, 3) := by decide +kernel
theorem dX0_grow_23 : decode cX0_grow 23 = .ok (.getfield 201, 3) := by decide +kernel
theorem dX0_grow_26 : decode cX0_grow 26 = .ok (.iload_n 1, 1) := by decide +kernel
theorem dX0_grow_27 : decode cX0_grow 27 = .ok (.baload, 1) := by decide +kernel
theorem dX0_grow_28 : decode cX0_grow 28 = .ok (.ifCond .ne 6, 3) := by decide +kernel
theorem dX0_grow_31 : decode cX0_grow 31 = .ok (.bipush (-2), 2) := by decide +kernel
theorem dX0_grow_33 : decode cX0_grow 33 = .ok (.ireturn, 1) := by decide +kernel
theorem dX0_grow_34 : decode cX0_grow 34 = .ok (.aload_n 0, 1) := by decide +kernel
theorem dX0_grow_35 : decode cX0_grow 35 = .ok (.getfield 51, 3) := by decide +kernel
theorem dX0_grow_38 : decode cX0_grow 38 = .ok (.iload_n 1, 1) := by decide +kernel
theorem dX0_grow_39 : decode cX0_grow 39 = .ok (.iload_n 2, 1) := by decide +kernel
theorem dX0_grow_40 : decode cX0_grow 40 = .ok (.invokevirtual 205, 3) := by decide +kernel
theorem dX0_grow_43 : decode cX0_grow 43 = .ok (.istore_n 3, 1) := by decide +kernel
theorem dX0_grow_44 : decode cX0_grow 44 = .ok (.aload_n 0, 1) := by decide +kernel
theorem dX0_grow_45 : decode cX0_grow 45 = .ok (.getfield 51, 3) := by decide +kernel
theorem dX0_grow_48 : decode cX0_grow 48 = .ok (.getfield 201, 3) := by decide +kernel
theorem dX0_grow_51 : decode cX0_grow 51 = .ok (.iload_n 3, 1) := by decide +kernel
theorem dX0_grow_52 : decode cX0_grow 52 = .ok (.baload, 1) := by decide +kernel
theorem dX0_grow_53 : decode cX0_grow 53 = .ok (.ifCond .eq 6, 3) := by decide +kernel
theorem dX0_grow_56 : decode cX0_grow 56 = .ok (.bipush (-3), 2) := by decide +kernel
theorem dX0_grow_58 : decode cX0_grow 58 = .ok (.ireturn, 1) := by decide +kernel
theorem dX0_grow_59 : decode cX0_grow 59 = .ok (.aload_n 0, 1) := by decide +kernel
theorem dX0_grow_60 : decode cX0_grow 60 = .ok (.getfield 51, 3) := by decide +kernel
theorem dX0_grow_63 : decode cX0_grow 63 = .ok (.aload_n 0, 1) := by decide +kernel
theorem dX0_grow_64 : decode cX0_grow 64 = .ok (.getfield 51, 3) := by decide +kernel
theorem dX0_grow_67 : decode cX0_grow 67 = .ok (.iload_n 1, 1) := by decide +kernel
theorem dX0_grow_68 : decode cX0_grow 68 = .ok (.iload_n 2, 1) := by decide +kernel
theorem dX0_grow_69 : decode cX0_grow 69 = .ok (.invokevirtual 207, 3) := by decide +kernel
theorem dX0_grow_72 : decode cX0_grow 72 = .ok (.aload_n 0, 1) := by decide +kernel
theorem dX0_grow_73 : decode cX0_grow 73 = .ok (.getfield 51, 3) := by decide +kernel
theorem dX0_grow_76 : decode cX0_grow 76 = .ok (.iload_n 1, 1) := by decide +kernel
theorem dX0_grow_77 : decode cX0_grow 77 = .ok (.iload_n 2, 1) := by decide +kernel
theorem dX0_grow_78 : decode cX0_grow 78 = .ok (.invokevirtual 210, 3) := by decide +kernel
theorem dX0_grow_81 : decode cX0_grow 81 = .ok (.invokevirtual 213, 3) := by decide +kernel
theorem dX0_grow_84 : decode cX0_grow 84 = .ok (.istore 4, 2) := by decide +kernel
theorem dX0_grow_86 : decode cX0_grow 86 = .ok (.iload 4, 2) := by decide +kernel
theorem dX0_grow_88 : decode cX0_grow 88 = .ok (.ifCond .lt 9, 3) := by decide +kernel
theorem dX0_grow_91 : decode cX0_grow 91 = .ok (.bipush (-10), 2) := by decide +kernel
theorem dX0_grow_93 : decode cX0_grow 93 = .ok (.iload 4, 2) := by decide +kernel
theorem dX0_grow_95 : decode cX0_grow 95 = .ok (.isub, 1) := by decide +kernel
theorem dX0_grow_96 : decode cX0_grow 96 = .ok (.ireturn, 1) := by decide +kernel
theorem dX0_grow_97 : decode cX0_grow 97 = .ok (.aload_n 0, 1) := by decide +kernel
theorem dX0_grow_98 : decode cX0_grow 98 = .ok (.getfield 51, 3) := by decide +kernel
theorem dX0_grow_101 : decode cX0_grow 101 = .ok (.iload_n 1, 1) := by decide +kernel
theorem dX0_grow_102 : decode cX0_grow 102 = .ok (.iload_n 2, 1) := by decide +kernel
theorem dX0_grow_103 : decode cX0_grow 103 = .ok (.invokevirtual 215, 3) := by decide +kernel
theorem dX0_grow_106 : decode cX0_grow 106 = .ok (.iload_n 3, 1) := by decide +kernel
theorem dX0_grow_107 : decode cX0_grow 107 = .ok (.ireturn, 1) := by decide +kernel
theorem dX0_paper_0 : decode cX0_paper 0 = .ok (.aload_n 0, 1) := by decide +kernel
theorem dX0_paper_1 : decode cX0_paper 1 = .ok (.iload_n 1, 1) := by decide +kernel
theorem dX0_paper_2 : decode cX0_paper 2 = .ok (.invokevirtual 173, 3) := by decide +kernel
theorem dX0_paper_5 : decode cX0_paper 5 = .ok (.ifCond .eq 24, 3) := by decide +kernel
theorem dX0_paper_8 : decode cX0_paper 8 = .ok (.aload_n 0, 1) := by decide +kernel
theorem dX0_paper_9 : decode cX0_paper 9 = .ok (.getfield 51, 3) := by decide +kernel
theorem dX0_paper_12 : decode cX0_paper 12 = .ok (.getfield 201, 3) := by decide +kernel
theorem dX0_paper_15 : decode cX0_paper 15 = .ok (.iload_n 1, 1) := by decide +kernel
theorem dX0_paper_16 : decode cX0_paper 16 = .ok (.baload, 1) := by decide +kernel
theorem dX0_paper_17 : decode cX0_paper 17 = .ok (.ifCond .eq 12, 3) := by decide +kernel
theorem dX0_paper_20 : decode cX0_paper 20 = .ok (.iload_n 2, 1) := by decide +kernel
theorem dX0_paper_21 : decode cX0_paper 21 = .ok (.iconst 0, 1) := by decide +kernel
theorem dX0_paper_22 : decode cX0_paper 22 = .ok (.iconst 3, 1) := by decide +kernel
theorem dX0_paper_23 : decode cX0_paper 23 = .ok (.invokestatic 169, 3) := by decide +kernel
theorem dX0_paper_26 : decode cX0_paper 26 = .ok (.ifCond .ne 7, 3) := by decide +kernel
theorem dX0_paper_29 : decode cX0_paper 29 = .ok (.sipush (-1000), 3) := by decide +kernel
theorem dX0_paper_32 : decode cX0_paper 32 = .ok (.ireturn, 1) := by decide +kernel
theorem dX0_paper_33 : decode cX0_paper 33 = .ok (.iload_n 2, 1) := by decide +kernel
theorem dX0_paper_34 : decode cX0_paper 34 = .ok (.ifCond .ne 15, 3) := by decide +kernel
theorem dX0_paper_37 : decode cX0_paper 37 = .ok (.aload_n 0, 1) := by decide +kernel
theorem dX0_paper_38 : decode cX0_paper 38 = .ok (.getfield 51, 3) := by decide +kernel
theorem dX0_paper_41 : decode cX0_paper 41 = .ok (.getfield 219, 3) := by decide +kernel
theorem dX0_paper_44 : decode cX0_paper 44 = .ok (.iload_n 1, 1) := by decide +kernel
theorem dX0_paper_45 : decode cX0_paper 45 = .ok (.iaload, 1) := by decide +kernel
theorem dX0_paper_46 : decode cX0_paper 46 = .ok (.goto 46, 3) := by decide +kernel
theorem dX0_paper_49 : decode cX0_paper 49 = .ok (.iload_n 2, 1) := by decide +kernel
theorem dX0_paper_50 : decode cX0_paper 50 = .ok (.iconst 1, 1) := by decide +kernel
theorem dX0_paper_51 : decode cX0_paper 51 = .ok (.if_icmp .ne 15, 3) := by decide +kernel
theorem dX0_paper_54 : decode cX0_paper 54 = .ok (.aload_n 0, 1) := by decide +kernel
theorem dX0_paper_55 : decode cX0_paper 55 = .ok (.getfield 51, 3) := by decide +kernel
theorem dX0_paper_58 : decode cX0_paper 58 = .ok (.getfield 221, 3) := by decide +kernel
theorem dX0_paper_61 : decode cX0_paper 61 = .ok (.iload_n 1, 1) := by decide +kernel
theorem dX0_paper_62 : decode cX0_paper 62 = .ok (.iaload, 1) := by decide +kernel
theorem dX0_paper_63 : decode cX0_paper 63 = .ok (.goto 29, 3) := by decide +kernel
theorem dX0_paper_66 : decode cX0_paper 66 = .ok (.iload_n 2, 1) := by decide +kernel
theorem dX0_paper_67 : decode cX0_paper 67 = .ok (.iconst 2, 1) := by decide +kernel
theorem dX0_paper_68 : decode cX0_paper 68 = .ok (.if_icmp .ne 15, 3) := by decide +kernel
theorem dX0_paper_71 : decode cX0_paper 71 = .ok (.aload_n 0, 1) := by decide +kernel
theorem dX0_paper_72 : decode cX0_paper 72 = .ok (.getfield 51, 3) := by decide +kernel
theorem dX0_paper_75 : decode cX0_paper 75 = .ok (.getfield 223, 3) := by decide +kernel
theorem dX0_paper_78 : decode cX0_paper 78 = .ok (.iload_n 1, 1) := by decide +kernel
theorem dX0_paper_79 : decode cX0_paper 79 = .ok (.iaload, 1) := by decide +kernel
theorem dX0_paper_80 : decode cX0_paper 80 = .ok (.goto 12, 3) := by decide +kernel
theorem dX0_paper_83 : decode cX0_paper 83 = .ok (.aload_n 0, 1) := by decide +kernel
theorem dX0_paper_84 : decode cX0_paper 84 = .ok (.getfield 51, 3) := by decide +kernel
theorem dX0_paper_87 : decode cX0_paper 87 = .ok (.getfield 226, 3) := by decide +kernel
theorem dX0_paper_90 : decode cX0_paper 90 = .ok (.iload_n 1, 1) := by decide +kernel
theorem dX0_paper_91 : decode cX0_paper 91 = .ok (.iaload, 1) := by decide +kernel
theorem dX0_paper_92 : decode cX0_paper 92 = .ok (.ireturn, 1) := by decide +kernel
theorem dX0_run_0 : decode cX0_run 0 = .ok (.iload_n 1, 1) := by decide +kernel
theorem dX0_run_1 : decode cX0_run 1 = .ok (.iconst 1, 1) := by decide +kernel
theorem dX0_run_2 : decode cX0_run 2 = .ok (.sipush 500, 3) := by decide +kernel
theorem dX0_run_5 : decode cX0_run 5 = .ok (.invokestatic 169, 3) := by decide +kernel
theorem dX0_run_8 : decode cX0_run 8 = .ok (.ifCond .ne 5, 3) := by decide +kernel
theorem dX0_run_11 : decode cX0_run 11 = .ok (.iconst (-1), 1) := by decide +kernel
theorem dX0_run_12 : decode cX0_run 12 = .ok (.ireturn, 1) := by decide +kernel
theorem dX0_run_13 : decode cX0_run 13 = .ok (.aload_n 0, 1) := by decide +kernel
theorem dX0_run_14 : decode cX0_run 14 = .ok (.getfield 100, 3) := by decide +kernel
theorem dX0_run_17 : decode cX0_run 17 = .ok (.ifCond .ne 6, 3) := by decide +kernel
theorem dX0_run_20 : decode cX0_run 20 = .ok (.bipush (-2), 2) := by decide +kernel
theorem dX0_run_22 : decode cX0_run 22 = .ok (.ireturn, 1) := by decide +kernel
theorem dX0_run_23 : decode cX0_run 23 = .ok (.iload_n 1, 1) := by decide +kernel
theorem dX0_run_24 : decode cX0_run 24 = .ok (.istore_n 2, 1) := by decide +kernel
theorem dX0_run_25 : decode cX0_run 25 = .ok (.aload_n 0, 1) := by decide +kernel
theorem dX0_run_26 : decode cX0_run 26 = .ok (.getfield 151, 3) := by decide +kernel
theorem dX0_run_29 : decode cX0_run 29 = .ok (.ifCond .ne 203, 3) := by decide +kernel
theorem dX0_run_32 : decode cX0_run 32 = .ok (.aload_n 0, 1) := by decide +kernel
theorem dX0_run_33 : decode cX0_run 33 = .ok (.getfield 142, 3) := by decide +kernel
theorem dX0_run_36 : decode cX0_run 36 = .ok (.iconst 4, 1) := by decide +kernel
theorem dX0_run_37 : decode cX0_run 37 = .ok (.aload_n 0, 1) := by decide +kernel
theorem dX0_run_38 : decode cX0_run 38 = .ok (.getfield 55, 3) := by decide +kernel
theorem dX0_run_41 : decode cX0_run 41 = .ok (.getfield 229, 3) := by decide +kernel
theorem dX0_run_44 : decode cX0_run 44 = .ok (.imul, 1) := by decide +kernel
theorem dX0_run_45 : decode cX0_run 45 = .ok (.if_icmp .ne 28, 3) := by decide +kernel
theorem dX0_run_48 : decode cX0_run 48 = .ok (.aload_n 0, 1) := by decide +kernel
theorem dX0_run_49 : decode cX0_run 49 = .ok (.getfield 55, 3) := by decide +kernel
theorem dX0_run_52 : decode cX0_run 52 = .ok (.getfield 229, 3) := by decide +kernel
end
section
set_option maxRecDepth 100000
theorem dX0_run_55 : decode cX0_run 55 = .ok (.aload_n 0, 1) := by decide +kernel
theorem dX0_run_56 : decode cX0_run 56 = .ok (.getfield 123, 3) := by decide +kernel
theorem dX0_run_59 : decode cX0_run 59 = .ok (.if_icmp .ne 7, 3) := by decide +kernel
theorem dX0_run_62 : decode cX0_run 62 = .ok (.aload_n 0, 1) := by decide +kernel
theorem dX0_run_63 : decode cX0_run 63 = .ok (.invokevirtual 232, 3) := by decide +kernel
theorem dX0_run_66 : decode cX0_run 66 = .ok (.aload_n 0, 1) := by decide +kernel
theorem dX0_run_67 : decode cX0_run 67 = .ok (.invokevirtual 235, 3) := by decide +kernel
theorem dX0_run_70 : decode cX0_run 70 = .ok (.goto (-45), 3) := by decide +kernel
theorem dX0_run_73 : decode cX0_run 73 = .ok (.aload_n 0, 1) := by decide +kernel
theorem dX0_run_74 : decode cX0_run 74 = .ok (.getfield 55, 3) := by decide +kernel
theorem dX0_run_77 : decode cX0_run 77 = .ok (.getfield 238, 3) := by decide +kernel
theorem dX0_run_80 : decode cX0_run 80 = .ok (.aload_n 0, 1) := by decide +kernel
theorem dX0_run_81 : decode cX0_run 81 = .ok (.getfield 142, 3) := by decide +kernel
theorem dX0_run_84 : decode cX0_run 84 = .ok (.iconst 4, 1) := by decide +kernel
theorem dX0_run_85 : decode cX0_run 85 = .ok (.idiv, 1) := by decide +kernel
theorem dX0_run_86 : decode cX0_run 86 = .ok (.iaload, 1) := by decide +kernel
theorem dX0_run_87 : decode cX0_run 87 = .ok (.istore_n 3, 1) := by decide +kernel
theorem dX0_run_88 : decode cX0_run 88 = .ok (.aload_n 0, 1) := by decide +kernel
theorem dX0_run_89 : decode cX0_run 89 = .ok (.getfield 142, 3) := by decide +kernel
theorem dX0_run_92 : decode cX0_run 92 = .ok (.iconst 4, 1) := by decide +kernel
theorem dX0_run_93 : decode cX0_run 93 = .ok (.irem, 1) := by decide +kernel
theorem dX0_run_94 : decode cX0_run 94 = .ok (.istore 4, 2) := by decide +kernel
theorem dX0_run_96 : decode cX0_run 96 = .ok (.aload_n 0, 1) := by decide +kernel
theorem dX0_run_97 : decode cX0_run 97 = .ok (.getfield 55, 3) := by decide +kernel
theorem dX0_run_100 : decode cX0_run 100 = .ok (.getfield 201, 3) := by decide +kernel
theorem dX0_run_103 : decode cX0_run 103 = .ok (.aload_n 0, 1) := by decide +kernel
theorem dX0_run_104 : decode cX0_run 104 = .ok (.getfield 55, 3) := by decide +kernel
theorem dX0_run_107 : decode cX0_run 107 = .ok (.iload_n 3, 1) := by decide +kernel
theorem dX0_run_108 : decode cX0_run 108 = .ok (.iload 4, 2) := by decide +kernel
theorem dX0_run_110 : decode cX0_run 110 = .ok (.invokevirtual 205, 3) := by decide +kernel
theorem dX0_run_113 : decode cX0_run 113 = .ok (.baload, 1) := by decide +kernel
theorem dX0_run_114 : decode cX0_run 114 = .ok (.ifCond .ne 37, 3) := by decide +kernel
theorem dX0_run_117 : decode cX0_run 117 = .ok (.aload_n 0, 1) := by decide +kernel
theorem dX0_run_118 : decode cX0_run 118 = .ok (.getfield 55, 3) := by decide +kernel
theorem dX0_run_121 : decode cX0_run 121 = .ok (.aload_n 0, 1) := by decide +kernel
theorem dX0_run_122 : decode cX0_run 122 = .ok (.getfield 55, 3) := by decide +kernel
theorem dX0_run_125 : decode cX0_run 125 = .ok (.iload_n 3, 1) := by decide +kernel
theorem dX0_run_126 : decode cX0_run 126 = .ok (.iload 4, 2) := by decide +kernel
theorem dX0_run_128 : decode cX0_run 128 = .ok (.invokevirtual 207, 3) := by decide +kernel
theorem dX0_run_131 : decode cX0_run 131 = .ok (.aload_n 0, 1) := by decide +kernel
theorem dX0_run_132 : decode cX0_run 132 = .ok (.getfield 55, 3) := by decide +kernel
theorem dX0_run_135 : decode cX0_run 135 = .ok (.iload_n 3, 1) := by decide +kernel
theorem dX0_run_136 : decode cX0_run 136 = .ok (.iload 4, 2) := by decide +kernel
theorem dX0_run_138 : decode cX0_run 138 = .ok (.invokevirtual 210, 3) := by decide +kernel
theorem dX0_run_141 : decode cX0_run 141 = .ok (.invokevirtual 213, 3) := by decide +kernel
theorem dX0_run_144 : decode cX0_run 144 = .ok (.ifCond .ge 7, 3) := by decide +kernel
theorem dX0_run_147 : decode cX0_run 147 = .ok (.iconst 1, 1) := by decide +kernel
theorem dX0_run_148 : decode cX0_run 148 = .ok (.goto 4, 3) := by decide +kernel
theorem dX0_run_151 : decode cX0_run 151 = .ok (.iconst 0, 1) := by decide +kernel
theorem dX0_run_152 : decode cX0_run 152 = .ok (.istore 5, 2) := by decide +kernel
theorem dX0_run_154 : decode cX0_run 154 = .ok (.iload 5, 2) := by decide +kernel
theorem dX0_run_156 : decode cX0_run 156 = .ok (.ifCond .eq 12, 3) := by decide +kernel
theorem dX0_run_159 : decode cX0_run 159 = .ok (.iload_n 2, 1) := by decide +kernel
theorem dX0_run_160 : decode cX0_run 160 = .ok (.ifCond .ne 8, 3) := by decide +kernel
theorem dX0_run_163 : decode cX0_run 163 = .ok (.aload_n 0, 1) := by decide +kernel
theorem dX0_run_164 : decode cX0_run 164 = .ok (.getfield 145, 3) := by decide +kernel
theorem dX0_run_167 : decode cX0_run 167 = .ok (.ireturn, 1) := by decide +kernel
theorem dX0_run_168 : decode cX0_run 168 = .ok (.iload 5, 2) := by decide +kernel
theorem dX0_run_170 : decode cX0_run 170 = .ok (.ifCond .eq 49, 3) := by decide +kernel
theorem dX0_run_173 : decode cX0_run 173 = .ok (.iinc 2 (-1), 3) := by decide +kernel
theorem dX0_run_176 : decode cX0_run 176 = .ok (.aload_n 0, 1) := by decide +kernel
theorem dX0_run_177 : decode cX0_run 177 = .ok (.dup, 1) := by decide +kernel
theorem dX0_run_178 : decode cX0_run 178 = .ok (.getfield 148, 3) := by decide +kernel
theorem dX0_run_181 : decode cX0_run 181 = .ok (.iconst 1, 1) := by decide +kernel
theorem dX0_run_182 : decode cX0_run 182 = .ok (.iadd, 1) := by decide +kernel
theorem dX0_run_183 : decode cX0_run 183 = .ok (.putfield 148, 3) := by decide +kernel
theorem dX0_run_186 : decode cX0_run 186 = .ok (.aload_n 0, 1) := by decide +kernel
theorem dX0_run_187 : decode cX0_run 187 = .ok (.getfield 55, 3) := by decide +kernel
theorem dX0_run_190 : decode cX0_run 190 = .ok (.iload_n 3, 1) := by decide +kernel
theorem dX0_run_191 : decode cX0_run 191 = .ok (.iload 4, 2) := by decide +kernel
theorem dX0_run_193 : decode cX0_run 193 = .ok (.invokevirtual 215, 3) := by decide +kernel
theorem dX0_run_196 : decode cX0_run 196 = .ok (.aload_n 0, 1) := by decide +kernel
theorem dX0_run_197 : decode cX0_run 197 = .ok (.getfield 58, 3) := by decide +kernel
theorem dX0_run_200 : decode cX0_run 200 = .ok (.aload_n 0, 1) := by decide +kernel
theorem dX0_run_201 : decode cX0_run 201 = .ok (.getfield 139, 3) := by decide +kernel
theorem dX0_run_204 : decode cX0_run 204 = .ok (.aload_n 0, 1) := by decide +kernel
theorem dX0_run_205 : decode cX0_run 205 = .ok (.getfield 142, 3) := by decide +kernel
theorem dX0_run_208 : decode cX0_run 208 = .ok (.iastore, 1) := by decide +kernel
theorem dX0_run_209 : decode cX0_run 209 = .ok (.aload_n 0, 1) := by decide +kernel
theorem dX0_run_210 : decode cX0_run 210 = .ok (.dup, 1) := by decide +kernel
theorem dX0_run_211 : decode cX0_run 211 = .ok (.getfield 139, 3) := by decide +kernel
theorem dX0_run_214 : decode cX0_run 214 = .ok (.iconst 1, 1) := by decide +kernel
theorem dX0_run_215 : decode cX0_run 215 = .ok (.iadd, 1) := by decide +kernel
theorem dX0_run_216 : decode cX0_run 216 = .ok (.putfield 139, 3) := by decide +kernel
theorem dX0_run_219 : decode cX0_run 219 = .ok (.aload_n 0, 1) := by decide +kernel
theorem dX0_run_220 : decode cX0_run 220 = .ok (.dup, 1) := by decide +kernel
theorem dX0_run_221 : decode cX0_run 221 = .ok (.getfield 142, 3) := by decide +kernel
theorem dX0_run_224 : decode cX0_run 224 = .ok (.iconst 1, 1) := by decide +kernel
theorem dX0_run_225 : decode cX0_run 225 = .ok (.iadd, 1) := by decide +kernel
theorem dX0_run_226 : decode cX0_run 226 = .ok (.putfield 142, 3) := by decide +kernel
theorem dX0_run_229 : decode cX0_run 229 = .ok (.goto (-204), 3) := by decide +kernel
theorem dX0_run_232 : decode cX0_run 232 = .ok (.aload_n 0, 1) := by decide +kernel
theorem dX0_run_233 : decode cX0_run 233 = .ok (.getfield 145, 3) := by decide +kernel
theorem dX0_run_236 : decode cX0_run 236 = .ok (.ireturn, 1) := by decide +kernel
theorem dX0_found_0 : decode cX0_found 0 = .ok (.iconst 0, 1) := by decide +kernel
theorem dX0_found_1 : decode cX0_found 1 = .ok (.istore_n 1, 1) := by decide +kernel
theorem dX0_found_2 : decode cX0_found 2 = .ok (.iconst 0, 1) := by decide +kernel
theorem dX0_found_3 : decode cX0_found 3 = .ok (.istore_n 2, 1) := by decide +kernel
theorem dX0_found_4 : decode cX0_found 4 = .ok (.iconst 0, 1) := by decide +kernel
theorem dX0_found_5 : decode cX0_found 5 = .ok (.istore_n 3, 1) := by decide +kernel
theorem dX0_found_6 : decode cX0_found 6 = .ok (.iconst 0, 1) := by decide +kernel
theorem dX0_found_7 : decode cX0_found 7 = .ok (.istore 4, 2) := by decide +kernel
theorem dX0_found_9 : decode cX0_found 9 = .ok (.iconst 0, 1) := by decide +kernel
theorem dX0_found_10 : decode cX0_found 10 = .ok (.istore 5, 2) := by decide +kernel
theorem dX0_found_12 : decode cX0_found 12 = .ok (.iload 5, 2) := by decide +kernel
theorem dX0_found_14 : decode cX0_found 14 = .ok (.aload_n 0, 1) := by decide +kernel
theorem dX0_found_15 : decode cX0_found 15 = .ok (.getfield 123, 3) := by decide +kernel
theorem dX0_found_18 : decode cX0_found 18 = .ok (.if_icmp .ge 71, 3) := by decide +kernel
theorem dX0_found_21 : decode cX0_found 21 = .ok (.iload_n 1, 1) := by decide +kernel
theorem dX0_found_22 : decode cX0_found 22 = .ok (.aload_n 0, 1) := by decide +kernel
theorem dX0_found_23 : decode cX0_found 23 = .ok (.getfield 55, 3) := by decide +kernel
theorem dX0_found_26 : decode cX0_found 26 = .ok (.getfield 219, 3) := by decide +kernel
theorem dX0_found_29 : decode cX0_found 29 = .ok (.iload 5, 2) := by decide +kernel
theorem dX0_found_31 : decode cX0_found 31 = .ok (.iaload, 1) := by decide +kernel
theorem dX0_found_32 : decode cX0_found 32 = .ok (.invokestatic 244, 3) := by decide +kernel
theorem dX0_found_35 : decode cX0_found 35 = .ok (.istore_n 1, 1) := by decide +kernel
theorem dX0_found_36 : decode cX0_found 36 = .ok (.iload_n 2, 1) := by decide +kernel
theorem dX0_found_37 : decode cX0_found 37 = .ok (.aload_n 0, 1) := by decide +kernel
theorem dX0_found_38 : decode cX0_found 38 = .ok (.getfield 55, 3) := by decide +kernel
theorem dX0_found_41 : decode cX0_found 41 = .ok (.getfield 219, 3) := by decide +kernel
theorem dX0_found_44 : decode cX0_found 44 = .ok (.iload 5, 2) := by decide +kernel
theorem dX0_found_46 : decode cX0_found 46 = .ok (.iaload, 1) := by decide +kernel
theorem dX0_found_47 : decode cX0_found 47 = .ok (.invokestatic 249, 3) := by decide +kernel
theorem dX0_found_50 : decode cX0_found 50 = .ok (.istore_n 2, 1) := by decide +kernel
theorem dX0_found_51 : decode cX0_found 51 = .ok (.iload_n 3, 1) := by decide +kernel
theorem dX0_found_52 : decode cX0_found 52 = .ok (.aload_n 0, 1) := by decide +kernel
theorem dX0_found_53 : decode cX0_found 53 = .ok (.getfield 55, 3) := by decide +kernel
theorem dX0_found_56 : decode cX0_found 56 = .ok (.getfield 221, 3) := by decide +kernel
theorem dX0_found_59 : decode cX0_found 59 = .ok (.iload 5, 2) := by decide +kernel
theorem dX0_found_61 : decode cX0_found 61 = .ok (.iaload, 1) := by decide +kernel
theorem dX0_found_62 : decode cX0_found 62 = .ok (.invokestatic 244, 3) := by decide +kernel
theorem dX0_found_65 : decode cX0_found 65 = .ok (.istore_n 3, 1) := by decide +kernel
theorem dX0_found_66 : decode cX0_found 66 = .ok (.iload 4, 2) := by decide +kernel
theorem dX0_found_68 : decode cX0_found 68 = .ok (.aload_n 0, 1) := by decide +kernel
theorem dX0_found_69 : decode cX0_found 69 = .ok (.getfield 55, 3) := by decide +kernel
theorem dX0_found_72 : decode cX0_found 72 = .ok (.getfield 221, 3) := by decide +kernel
theorem dX0_found_75 : decode cX0_found 75 = .ok (.iload 5, 2) := by decide +kernel
theorem dX0_found_77 : decode cX0_found 77 = .ok (.iaload, 1) := by decide +kernel
theorem dX0_found_78 : decode cX0_found 78 = .ok (.invokestatic 249, 3) := by decide +kernel
theorem dX0_found_81 : decode cX0_found 81 = .ok (.istore 4, 2) := by decide +kernel
theorem dX0_found_83 : decode cX0_found 83 = .ok (.iinc 5 1, 3) := by decide +kernel
theorem dX0_found_86 : decode cX0_found 86 = .ok (.goto (-74), 3) := by decide +kernel
theorem dX0_found_89 : decode cX0_found 89 = .ok (.iload_n 2, 1) := by decide +kernel
theorem dX0_found_90 : decode cX0_found 90 = .ok (.iload_n 1, 1) := by decide +kernel
theorem dX0_found_91 : decode cX0_found 91 = .ok (.isub, 1) := by decide +kernel
theorem dX0_found_92 : decode cX0_found 92 = .ok (.iconst 1, 1) := by decide +kernel
theorem dX0_found_93 : decode cX0_found 93 = .ok (.iadd, 1) := by decide +kernel
theorem dX0_found_94 : decode cX0_found 94 = .ok (.istore 5, 2) := by decide +kernel
theorem dX0_found_96 : decode cX0_found 96 = .ok (.iload 4, 2) := by decide +kernel
theorem dX0_found_98 : decode cX0_found 98 = .ok (.iload_n 3, 1) := by decide +kernel
theorem dX0_found_99 : decode cX0_found 99 = .ok (.isub, 1) := by decide +kernel
theorem dX0_found_100 : decode cX0_found 100 = .ok (.iconst 1, 1) := by decide +kernel
theorem dX0_found_101 : decode cX0_found 101 = .ok (.iadd, 1) := by decide +kernel
theorem dX0_found_102 : decode cX0_found 102 = .ok (.istore 6, 2) := by decide +kernel
theorem dX0_found_104 : decode cX0_found 104 = .ok (.aload_n 0, 1) := by decide +kernel
theorem dX0_found_105 : decode cX0_found 105 = .ok (.getfield 155, 3) := by decide +kernel
theorem dX0_found_108 : decode cX0_found 108 = .ok (.bipush (-9), 2) := by decide +kernel
theorem dX0_found_110 : decode cX0_found 110 = .ok (.if_icmp .eq 20, 3) := by decide +kernel
theorem dX0_found_113 : decode cX0_found 113 = .ok (.iload 5, 2) := by decide +kernel
theorem dX0_found_115 : decode cX0_found 115 = .ok (.iload 6, 2) := by decide +kernel
theorem dX0_found_117 : decode cX0_found 117 = .ok (.imul, 1) := by decide +kernel
theorem dX0_found_118 : decode cX0_found 118 = .ok (.aload_n 0, 1) := by decide +kernel
theorem dX0_found_119 : decode cX0_found 119 = .ok (.getfield 252, 3) := by decide +kernel
theorem dX0_found_122 : decode cX0_found 122 = .ok (.aload_n 0, 1) := by decide +kernel
theorem dX0_found_123 : decode cX0_found 123 = .ok (.getfield 255, 3) := by decide +kernel
theorem dX0_found_126 : decode cX0_found 126 = .ok (.imul, 1) := by decide +kernel
theorem dX0_found_127 : decode cX0_found 127 = .ok (.if_icmp .ge 63, 3) := by decide +kernel
theorem dX0_found_130 : decode cX0_found 130 = .ok (.aload_n 0, 1) := by decide +kernel
theorem dX0_found_131 : decode cX0_found 131 = .ok (.aload_n 0, 1) := by decide +kernel
theorem dX0_found_132 : decode cX0_found 132 = .ok (.getfield 145, 3) := by decide +kernel
theorem dX0_found_135 : decode cX0_found 135 = .ok (.putfield 155, 3) := by decide +kernel
theorem dX0_found_138 : decode cX0_found 138 = .ok (.aload_n 0, 1) := by decide +kernel
theorem dX0_found_139 : decode cX0_found 139 = .ok (.iload 5, 2) := by decide +kernel
theorem dX0_found_141 : decode cX0_found 141 = .ok (.putfield 252, 3) := by decide +kernel
theorem dX0_found_144 : decode cX0_found 144 = .ok (.aload_n 0, 1) := by decide +kernel
theorem dX0_found_145 : decode cX0_found 145 = .ok (.iload 6, 2) := by decide +kernel
theorem dX0_found_147 : decode cX0_found 147 = .ok (.putfield 255, 3) := by decide +kernel
theorem dX0_found_150 : decode cX0_found 150 = .ok (.aload_n 0, 1) := by decide +kernel
theorem dX0_found_151 : decode cX0_found 151 = .ok (.getfield 55, 3) := by decide +kernel
theorem dX0_found_154 : decode cX0_found 154 = .ok (.getfield 219, 3) := by decide +kernel
theorem dX0_found_157 : decode cX0_found 157 = .ok (.iconst 0, 1) := by decide +kernel
theorem dX0_found_158 : decode cX0_found 158 = .ok (.aload_n 0, 1) := by decide +kernel
theorem dX0_found_159 : decode cX0_found 159 = .ok (.getfield 61, 3) := by decide +kernel
theorem dX0_found_162 : decode cX0_found 162 = .ok (.iconst 0, 1) := by decide +kernel
theorem dX0_found_163 : decode cX0_found 163 = .ok (.aload_n 0, 1) := by decide +kernel
theorem dX0_found_164 : decode cX0_found 164 = .ok (.getfield 123, 3) := by decide +kernel
theorem dX0_found_167 : decode cX0_found 167 = .ok (.invokestatic 258, 3) := by decide +kernel
theorem dX0_found_170 : decode cX0_found 170 = .ok (.aload_n 0, 1) := by decide +kernel
theorem dX0_found_171 : decode cX0_found 171 = .ok (.getfield 55, 3) := by decide +kernel
theorem dX0_found_174 : decode cX0_found 174 = .ok (.getfield 221, 3) := by decide +kernel
theorem dX0_found_177 : decode cX0_found 177 = .ok (.iconst 0, 1) := by decide +kernel
theorem dX0_found_178 : decode cX0_found 178 = .ok (.aload_n 0, 1) := by decide +kernel
theorem dX0_found_179 : decode cX0_found 179 = .ok (.getfield 64, 3) := by decide +kernel
theorem dX0_found_182 : decode cX0_found 182 = .ok (.iconst 0, 1) := by decide +kernel
theorem dX0_found_183 : decode cX0_found 183 = .ok (.aload_n 0, 1) := by decide +kernel
theorem dX0_found_184 : decode cX0_found 184 = .ok (.getfield 123, 3) := by decide +kernel
theorem dX0_found_187 : decode cX0_found 187 = .ok (.invokestatic 258, 3) := by decide +kernel
theorem dX0_found_190 : decode cX0_found 190 = .ok (.aload_n 0, 1) := by decide +kernel
theorem dX0_found_191 : decode cX0_found 191 = .ok (.dup, 1) := by decide +kernel
theorem dX0_found_192 : decode cX0_found 192 = .ok (.getfield 145, 3) := by decide +kernel
theorem dX0_found_195 : decode cX0_found 195 = .ok (.iconst 1, 1) := by decide +kernel
theorem dX0_found_196 : decode cX0_found 196 = .ok (.iadd, 1) := by decide +kernel
theorem dX0_found_197 : decode cX0_found 197 = .ok (.putfield 145, 3) := by decide +kernel
theorem dX0_found_200 : decode cX0_found 200 = .ok (.aload_n 0, 1) := by decide +kernel
theorem dX0_found_201 : decode cX0_found 201 = .ok (.invokevirtual 264, 3) := by decide +kernel
theorem dX0_found_204 : decode cX0_found 204 = .ok (.return_, 1) := by decide +kernel
theorem dX0_keep_0 : decode cX0_keep 0 = .ok (.iconst 0, 1) := by decide +kernel
theorem dX0_keep_1 : decode cX0_keep 1 = .ok (.istore_n 1, 1) := by decide +kernel
theorem dX0_keep_2 : decode cX0_keep 2 = .ok (.iload_n 1, 1) := by decide +kernel
theorem dX0_keep_3 : decode cX0_keep 3 = .ok (.bipush 8, 2) := by decide +kernel
theorem dX0_keep_5 : decode cX0_keep 5 = .ok (.if_icmp .ge 53, 3) := by decide +kernel
theorem dX0_keep_8 : decode cX0_keep 8 = .ok (.aload_n 0, 1) := by decide +kernel
theorem dX0_keep_9 : decode cX0_keep 9 = .ok (.iload_n 1, 1) := by decide +kernel
theorem dX0_keep_10 : decode cX0_keep 10 = .ok (.invokevirtual 277, 3) := by decide +kernel
theorem dX0_keep_13 : decode cX0_keep 13 = .ok (.iload_n 1, 1) := by decide +kernel
theorem dX0_keep_14 : decode cX0_keep 14 = .ok (.ifCond .eq 21, 3) := by decide +kernel
theorem dX0_keep_17 : decode cX0_keep 17 = .ok (.aload_n 0, 1) := by decide +kernel
theorem dX0_keep_18 : decode cX0_keep 18 = .ok (.getfield 75, 3) := by decide +kernel
theorem dX0_keep_21 : decode cX0_keep 21 = .ok (.aload_n 0, 1) := by decide +kernel
theorem dX0_keep_22 : decode cX0_keep 22 = .ok (.getfield 78, 3) := by decide +kernel
theorem dX0_keep_25 : decode cX0_keep 25 = .ok (.aload_n 0, 1) := by decide +kernel
theorem dX0_keep_26 : decode cX0_keep 26 = .ok (.getfield 123, 3) := by decide +kernel
theorem dX0_keep_29 : decode cX0_keep 29 = .ok (.invokestatic 280, 3) := by decide +kernel
theorem dX0_keep_32 : decode cX0_keep 32 = .ok (.ifCond .eq 20, 3) := by decide +kernel
theorem dX0_keep_35 : decode cX0_keep 35 = .ok (.aload_n 0, 1) := by decide +kernel
theorem dX0_keep_36 : decode cX0_keep 36 = .ok (.getfield 75, 3) := by decide +kernel
theorem dX0_keep_39 : decode cX0_keep 39 = .ok (.iconst 0, 1) := by decide +kernel
theorem dX0_keep_40 : decode cX0_keep 40 = .ok (.aload_n 0, 1) := by decide +kernel
theorem dX0_keep_41 : decode cX0_keep 41 = .ok (.getfield 78, 3) := by decide +kernel
theorem dX0_keep_44 : decode cX0_keep 44 = .ok (.iconst 0, 1) := by decide +kernel
theorem dX0_keep_45 : decode cX0_keep 45 = .ok (.aload_n 0, 1) := by decide +kernel
theorem dX0_keep_46 : decode cX0_keep 46 = .ok (.getfield 123, 3) := by decide +kernel
theorem dX0_keep_49 : decode cX0_keep 49 = .ok (.invokestatic 258, 3) := by decide +kernel
theorem dX0_keep_52 : decode cX0_keep 52 = .ok (.iinc 1 1, 3) := by decide +kernel
theorem dX0_keep_55 : decode cX0_keep 55 = .ok (.goto (-53), 3) := by decide +kernel
theorem dX0_keep_58 : decode cX0_keep 58 = .ok (.iconst 0, 1) := by decide +kernel
theorem dX0_keep_59 : decode cX0_keep 59 = .ok (.istore_n 1, 1) := by decide +kernel
theorem dX0_keep_60 : decode cX0_keep 60 = .ok (.iload_n 1, 1) := by decide +kernel
theorem dX0_keep_61 : decode cX0_keep 61 = .ok (.aload_n 0, 1) := by decide +kernel
theorem dX0_keep_62 : decode cX0_keep 62 = .ok (.getfield 284, 3) := by decide +kernel
theorem dX0_keep_65 : decode cX0_keep 65 = .ok (.if_icmp .ge 63, 3) := by decide +kernel
theorem dX0_keep_68 : decode cX0_keep 68 = .ok (.aload_n 0, 1) := by decide +kernel
theorem dX0_keep_69 : decode cX0_keep 69 = .ok (.getfield 72, 3) := by decide +kernel
theorem dX0_keep_72 : decode cX0_keep 72 = .ok (.iload_n 1, 1) := by decide +kernel
theorem dX0_keep_73 : decode cX0_keep 73 = .ok (.iaload, 1) := by decide +kernel
theorem dX0_keep_74 : decode cX0_keep 74 = .ok (.aload_n 0, 1) := by decide +kernel
theorem dX0_keep_75 : decode cX0_keep 75 = .ok (.getfield 123, 3) := by decide +kernel
theorem dX0_keep_78 : decode cX0_keep 78 = .ok (.if_icmp .ne 44, 3) := by decide +kernel
theorem dX0_keep_81 : decode cX0_keep 81 = .ok (.aload_n 0, 1) := by decide +kernel
theorem dX0_keep_82 : decode cX0_keep 82 = .ok (.getfield 68, 3) := by decide +kernel
theorem dX0_keep_85 : decode cX0_keep 85 = .ok (.iload_n 1, 1) := by decide +kernel
theorem dX0_keep_86 : decode cX0_keep 86 = .ok (.aaload, 1) := by decide +kernel
theorem dX0_keep_87 : decode cX0_keep 87 = .ok (.aload_n 0, 1) := by decide +kernel
theorem dX0_keep_88 : decode cX0_keep 88 = .ok (.getfield 78, 3) := by decide +kernel
theorem dX0_keep_91 : decode cX0_keep 91 = .ok (.aload_n 0, 1) := by decide +kernel
theorem dX0_keep_92 : decode cX0_keep 92 = .ok (.getfield 123, 3) := by decide +kernel
theorem dX0_keep_95 : decode cX0_keep 95 = .ok (.invokestatic 280, 3) := by decide +kernel
theorem dX0_keep_98 : decode cX0_keep 98 = .ok (.ifCond .ne 24, 3) := by decide +kernel
theorem dX0_keep_101 : decode cX0_keep 101 = .ok (.aload_n 0, 1) := by decide +kernel
theorem dX0_keep_102 : decode cX0_keep 102 = .ok (.getfield 78, 3) := by decide +kernel
theorem dX0_keep_105 : decode cX0_keep 105 = .ok (.aload_n 0, 1) := by decide +kernel
theorem dX0_keep_106 : decode cX0_keep 106 = .ok (.getfield 68, 3) := by decide +kernel
theorem dX0_keep_109 : decode cX0_keep 109 = .ok (.iload_n 1, 1) := by decide +kernel
theorem dX0_keep_110 : decode cX0_keep 110 = .ok (.aaload, 1) := by decide +kernel
theorem dX0_keep_111 : decode cX0_keep 111 = .ok (.aload_n 0, 1) := by decide +kernel
theorem dX0_keep_112 : decode cX0_keep 112 = .ok (.getfield 123, 3) := by decide +kernel
theorem dX0_keep_115 : decode cX0_keep 115 = .ok (.invokestatic 280, 3) := by decide +kernel
theorem dX0_keep_118 : decode cX0_keep 118 = .ok (.ifCond .ne 4, 3) := by decide +kernel
theorem dX0_keep_121 : decode cX0_keep 121 = .ok (.return_, 1) := by decide +kernel
theorem dX0_keep_122 : decode cX0_keep 122 = .ok (.iinc 1 1, 3) := by decide +kernel
theorem dX0_keep_125 : decode cX0_keep 125 = .ok (.goto (-65), 3) := by decide +kernel
theorem dX0_keep_128 : decode cX0_keep 128 = .ok (.aload_n 0, 1) := by decide +kernel
theorem dX0_keep_129 : decode cX0_keep 129 = .ok (.getfield 284, 3) := by decide +kernel
theorem dX0_keep_132 : decode cX0_keep 132 = .ok (.bipush 64, 2) := by decide +kernel
theorem dX0_keep_134 : decode cX0_keep 134 = .ok (.if_icmp .ge 48, 3) := by decide +kernel
theorem dX0_keep_137 : decode cX0_keep 137 = .ok (.aload_n 0, 1) := by decide +kernel
theorem dX0_keep_138 : decode cX0_keep 138 = .ok (.getfield 78, 3) := by decide +kernel
theorem dX0_keep_141 : decode cX0_keep 141 = .ok (.iconst 0, 1) := by decide +kernel
theorem dX0_keep_142 : decode cX0_keep 142 = .ok (.aload_n 0, 1) := by decide +kernel
theorem dX0_keep_143 : decode cX0_keep 143 = .ok (.getfield 68, 3) := by decide +kernel
theorem dX0_keep_146 : decode cX0_keep 146 = .ok (.aload_n 0, 1) := by decide +kernel
theorem dX0_keep_147 : decode cX0_keep 147 = .ok (.getfield 284, 3) := by decide +kernel
theorem dX0_keep_150 : decode cX0_keep 150 = .ok (.aaload, 1) := by decide +kernel
theorem dX0_keep_151 : decode cX0_keep 151 = .ok (.iconst 0, 1) := by decide +kernel
theorem dX0_keep_152 : decode cX0_keep 152 = .ok (.aload_n 0, 1) := by decide +kernel
theorem dX0_keep_153 : decode cX0_keep 153 = .ok (.getfield 123, 3) := by decide +kernel
theorem dX0_keep_156 : decode cX0_keep 156 = .ok (.invokestatic 258, 3) := by decide +kernel
theorem dX0_keep_159 : decode cX0_keep 159 = .ok (.aload_n 0, 1) := by decide +kernel
theorem dX0_keep_160 : decode cX0_keep 160 = .ok (.getfield 72, 3) := by decide +kernel
theorem dX0_keep_163 : decode cX0_keep 163 = .ok (.aload_n 0, 1) := by decide +kernel
theorem dX0_keep_164 : decode cX0_keep 164 = .ok (.getfield 284, 3) := by decide +kernel
theorem dX0_keep_167 : decode cX0_keep 167 = .ok (.aload_n 0, 1) := by decide +kernel
theorem dX0_keep_168 : decode cX0_keep 168 = .ok (.getfield 123, 3) := by decide +kernel
theorem dX0_keep_171 : decode cX0_keep 171 = .ok (.iastore, 1) := by decide +kernel
theorem dX0_keep_172 : decode cX0_keep 172 = .ok (.aload_n 0, 1) := by decide +kernel
theorem dX0_keep_173 : decode cX0_keep 173 = .ok (.dup, 1) := by decide +kernel
theorem dX0_keep_174 : decode cX0_keep 174 = .ok (.getfield 284, 3) := by decide +kernel
theorem dX0_keep_177 : decode cX0_keep 177 = .ok (.iconst 1, 1) := by decide +kernel
theorem dX0_keep_178 : decode cX0_keep 178 = .ok (.iadd, 1) := by decide +kernel
theorem dX0_keep_179 : decode cX0_keep 179 = .ok (.putfield 284, 3) := by decide +kernel
theorem dX0_keep_182 : decode cX0_keep 182 = .ok (.return_, 1) := by decide +kernel
theorem dX0_imageBy_0 : decode cX0_imageBy 0 = .ok (.sipush 1000, 3) := by decide +kernel
theorem dX0_imageBy_3 : decode cX0_imageBy 3 = .ok (.istore_n 2, 1) := by decide +kernel
theorem dX0_imageBy_4 : decode cX0_imageBy 4 = .ok (.sipush 1000, 3) := by decide +kernel
theorem dX0_imageBy_7 : decode cX0_imageBy 7 = .ok (.istore_n 3, 1) := by decide +kernel
theorem dX0_imageBy_8 : decode cX0_imageBy 8 = .ok (.iconst 0, 1) := by decide +kernel
theorem dX0_imageBy_9 : decode cX0_imageBy 9 = .ok (.istore 4, 2) := by decide +kernel
theorem dX0_imageBy_11 : decode cX0_imageBy 11 = .ok (.iload 4, 2) := by decide +kernel
theorem dX0_imageBy_13 : decode cX0_imageBy 13 = .ok (.aload_n 0, 1) := by decide +kernel
theorem dX0_imageBy_14 : decode cX0_imageBy 14 = .ok (.getfield 123, 3) := by decide +kernel
theorem dX0_imageBy_17 : decode cX0_imageBy 17 = .ok (.if_icmp .ge 67, 3) := by decide +kernel
theorem dX0_imageBy_20 : decode cX0_imageBy 20 = .ok (.iload_n 2, 1) := by decide +kernel
theorem dX0_imageBy_21 : decode cX0_imageBy 21 = .ok (.iload_n 1, 1) := by decide +kernel
theorem dX0_imageBy_22 : decode cX0_imageBy 22 = .ok (.aload_n 0, 1) := by decide +kernel
theorem dX0_imageBy_23 : decode cX0_imageBy 23 = .ok (.getfield 55, 3) := by decide +kernel
theorem dX0_imageBy_26 : decode cX0_imageBy 26 = .ok (.getfield 219, 3) := by decide +kernel
theorem dX0_imageBy_29 : decode cX0_imageBy 29 = .ok (.iload 4, 2) := by decide +kernel
theorem dX0_imageBy_31 : decode cX0_imageBy 31 = .ok (.iaload, 1) := by decide +kernel
theorem dX0_imageBy_32 : decode cX0_imageBy 32 = .ok (.aload_n 0, 1) := by decide +kernel
theorem dX0_imageBy_33 : decode cX0_imageBy 33 = .ok (.getfield 55, 3) := by decide +kernel
theorem dX0_imageBy_36 : decode cX0_imageBy 36 = .ok (.getfield 221, 3) := by decide +kernel
theorem dX0_imageBy_39 : decode cX0_imageBy 39 = .ok (.iload 4, 2) := by decide +kernel
theorem dX0_imageBy_41 : decode cX0_imageBy 41 = .ok (.iaload, 1) := by decide +kernel
theorem dX0_imageBy_42 : decode cX0_imageBy 42 = .ok (.invokestatic 267, 3) := by decide +kernel
theorem dX0_imageBy_45 : decode cX0_imageBy 45 = .ok (.invokestatic 244, 3) := by decide +kernel
theorem dX0_imageBy_48 : decode cX0_imageBy 48 = .ok (.istore_n 2, 1) := by decide +kernel
theorem dX0_imageBy_49 : decode cX0_imageBy 49 = .ok (.iload_n 3, 1) := by decide +kernel
theorem dX0_imageBy_50 : decode cX0_imageBy 50 = .ok (.iload_n 1, 1) := by decide +kernel
theorem dX0_imageBy_51 : decode cX0_imageBy 51 = .ok (.aload_n 0, 1) := by decide +kernel
theorem dX0_imageBy_52 : decode cX0_imageBy 52 = .ok (.getfield 55, 3) := by decide +kernel
theorem dX0_imageBy_55 : decode cX0_imageBy 55 = .ok (.getfield 219, 3) := by decide +kernel
theorem dX0_imageBy_58 : decode cX0_imageBy 58 = .ok (.iload 4, 2) := by decide +kernel
theorem dX0_imageBy_60 : decode cX0_imageBy 60 = .ok (.iaload, 1) := by decide +kernel
theorem dX0_imageBy_61 : decode cX0_imageBy 61 = .ok (.aload_n 0, 1) := by decide +kernel
theorem dX0_imageBy_62 : decode cX0_imageBy 62 = .ok (.getfield 55, 3) := by decide +kernel
theorem dX0_imageBy_65 : decode cX0_imageBy 65 = .ok (.getfield 221, 3) := by decide +kernel
theorem dX0_imageBy_68 : decode cX0_imageBy 68 = .ok (.iload 4, 2) := by decide +kernel
theorem dX0_imageBy_70 : decode cX0_imageBy 70 = .ok (.iaload, 1) := by decide +kernel
theorem dX0_imageBy_71 : decode cX0_imageBy 71 = .ok (.invokestatic 270, 3) := by decide +kernel
theorem dX0_imageBy_74 : decode cX0_imageBy 74 = .ok (.invokestatic 244, 3) := by decide +kernel
theorem dX0_imageBy_77 : decode cX0_imageBy 77 = .ok (.istore_n 3, 1) := by decide +kernel
theorem dX0_imageBy_78 : decode cX0_imageBy 78 = .ok (.iinc 4 1, 3) := by decide +kernel
theorem dX0_imageBy_81 : decode cX0_imageBy 81 = .ok (.goto (-70), 3) := by decide +kernel
theorem dX0_imageBy_84 : decode cX0_imageBy 84 = .ok (.iconst 0, 1) := by decide +kernel
theorem dX0_imageBy_85 : decode cX0_imageBy 85 = .ok (.istore 4, 2) := by decide +kernel
theorem dX0_imageBy_87 : decode cX0_imageBy 87 = .ok (.iload 4, 2) := by decide +kernel
theorem dX0_imageBy_89 : decode cX0_imageBy 89 = .ok (.aload_n 0, 1) := by decide +kernel
theorem dX0_imageBy_90 : decode cX0_imageBy 90 = .ok (.getfield 123, 3) := by decide +kernel
theorem dX0_imageBy_93 : decode cX0_imageBy 93 = .ok (.if_icmp .ge 80, 3) := by decide +kernel
theorem dX0_imageBy_96 : decode cX0_imageBy 96 = .ok (.iload_n 1, 1) := by decide +kernel
theorem dX0_imageBy_97 : decode cX0_imageBy 97 = .ok (.aload_n 0, 1) := by decide +kernel
theorem dX0_imageBy_98 : decode cX0_imageBy 98 = .ok (.getfield 55, 3) := by decide +kernel
theorem dX0_imageBy_101 : decode cX0_imageBy 101 = .ok (.getfield 219, 3) := by decide +kernel
theorem dX0_imageBy_104 : decode cX0_imageBy 104 = .ok (.iload 4, 2) := by decide +kernel
theorem dX0_imageBy_106 : decode cX0_imageBy 106 = .ok (.iaload, 1) := by decide +kernel
theorem dX0_imageBy_107 : decode cX0_imageBy 107 = .ok (.aload_n 0, 1) := by decide +kernel
theorem dX0_imageBy_108 : decode cX0_imageBy 108 = .ok (.getfield 55, 3) := by decide +kernel
theorem dX0_imageBy_111 : decode cX0_imageBy 111 = .ok (.getfield 221, 3) := by decide +kernel
theorem dX0_imageBy_114 : decode cX0_imageBy 114 = .ok (.iload 4, 2) := by decide +kernel
theorem dX0_imageBy_116 : decode cX0_imageBy 116 = .ok (.iaload, 1) := by decide +kernel
theorem dX0_imageBy_117 : decode cX0_imageBy 117 = .ok (.invokestatic 267, 3) := by decide +kernel
theorem dX0_imageBy_120 : decode cX0_imageBy 120 = .ok (.iload_n 2, 1) := by decide +kernel
theorem dX0_imageBy_121 : decode cX0_imageBy 121 = .ok (.isub, 1) := by decide +kernel
theorem dX0_imageBy_122 : decode cX0_imageBy 122 = .ok (.istore 5, 2) := by decide +kernel
theorem dX0_imageBy_124 : decode cX0_imageBy 124 = .ok (.iload_n 1, 1) := by decide +kernel
theorem dX0_imageBy_125 : decode cX0_imageBy 125 = .ok (.aload_n 0, 1) := by decide +kernel
theorem dX0_imageBy_126 : decode cX0_imageBy 126 = .ok (.getfield 55, 3) := by decide +kernel
theorem dX0_imageBy_129 : decode cX0_imageBy 129 = .ok (.getfield 219, 3) := by decide +kernel
theorem dX0_imageBy_132 : decode cX0_imageBy 132 = .ok (.iload 4, 2) := by decide +kernel
theorem dX0_imageBy_134 : decode cX0_imageBy 134 = .ok (.iaload, 1) := by decide +kernel
theorem dX0_imageBy_135 : decode cX0_imageBy 135 = .ok (.aload_n 0, 1) := by decide +kernel
theorem dX0_imageBy_136 : decode cX0_imageBy 136 = .ok (.getfield 55, 3) := by decide +kernel
theorem dX0_imageBy_139 : decode cX0_imageBy 139 = .ok (.getfield 221, 3) := by decide +kernel
theorem dX0_imageBy_142 : decode cX0_imageBy 142 = .ok (.iload 4, 2) := by decide +kernel
theorem dX0_imageBy_144 : decode cX0_imageBy 144 = .ok (.iaload, 1) := by decide +kernel
theorem dX0_imageBy_145 : decode cX0_imageBy 145 = .ok (.invokestatic 270, 3) := by decide +kernel
theorem dX0_imageBy_148 : decode cX0_imageBy 148 = .ok (.iload_n 3, 1) := by decide +kernel
theorem dX0_imageBy_149 : decode cX0_imageBy 149 = .ok (.isub, 1) := by decide +kernel
theorem dX0_imageBy_150 : decode cX0_imageBy 150 = .ok (.istore 6, 2) := by decide +kernel
theorem dX0_imageBy_152 : decode cX0_imageBy 152 = .ok (.aload_n 0, 1) := by decide +kernel
theorem dX0_imageBy_153 : decode cX0_imageBy 153 = .ok (.getfield 75, 3) := by decide +kernel
theorem dX0_imageBy_156 : decode cX0_imageBy 156 = .ok (.iload 4, 2) := by decide +kernel
theorem dX0_imageBy_158 : decode cX0_imageBy 158 = .ok (.bipush 32, 2) := by decide +kernel
theorem dX0_imageBy_160 : decode cX0_imageBy 160 = .ok (.iload 6, 2) := by decide +kernel
theorem dX0_imageBy_162 : decode cX0_imageBy 162 = .ok (.imul, 1) := by decide +kernel
theorem dX0_imageBy_163 : decode cX0_imageBy 163 = .ok (.iload 5, 2) := by decide +kernel
theorem dX0_imageBy_165 : decode cX0_imageBy 165 = .ok (.iadd, 1) := by decide +kernel
theorem dX0_imageBy_166 : decode cX0_imageBy 166 = .ok (.iastore, 1) := by decide +kernel
theorem dX0_imageBy_167 : decode cX0_imageBy 167 = .ok (.iinc 4 1, 3) := by decide +kernel
theorem dX0_imageBy_170 : decode cX0_imageBy 170 = .ok (.goto (-83), 3) := by decide +kernel
theorem dX0_imageBy_173 : decode cX0_imageBy 173 = .ok (.aload_n 0, 1) := by decide +kernel
theorem dX0_imageBy_174 : decode cX0_imageBy 174 = .ok (.getfield 75, 3) := by decide +kernel
theorem dX0_imageBy_177 : decode cX0_imageBy 177 = .ok (.iconst 0, 1) := by decide +kernel
theorem dX0_imageBy_178 : decode cX0_imageBy 178 = .ok (.aload_n 0, 1) := by decide +kernel
theorem dX0_imageBy_179 : decode cX0_imageBy 179 = .ok (.getfield 123, 3) := by decide +kernel
theorem dX0_imageBy_182 : decode cX0_imageBy 182 = .ok (.invokestatic 273, 3) := by decide +kernel
theorem dX0_imageBy_185 : decode cX0_imageBy 185 = .ok (.return_, 1) := by decide +kernel
theorem dX0_turnedX_0 : decode cX0_turnedX 0 = .ok (.iload_n 0, 1) := by decide +kernel
theorem dX0_turnedX_1 : decode cX0_turnedX 1 = .ok (.iconst 2, 1) := by decide +kernel
theorem dX0_turnedX_2 : decode cX0_turnedX 2 = .ok (.irem, 1) := by decide +kernel
theorem dX0_turnedX_3 : decode cX0_turnedX 3 = .ok (.ifCond .ne 7, 3) := by decide +kernel
theorem dX0_turnedX_6 : decode cX0_turnedX 6 = .ok (.iload_n 1, 1) := by decide +kernel
theorem dX0_turnedX_7 : decode cX0_turnedX 7 = .ok (.goto 4, 3) := by decide +kernel
theorem dX0_turnedX_10 : decode cX0_turnedX 10 = .ok (.iload_n 2, 1) := by decide +kernel
theorem dX0_turnedX_11 : decode cX0_turnedX 11 = .ok (.istore_n 3, 1) := by decide +kernel
theorem dX0_turnedX_12 : decode cX0_turnedX 12 = .ok (.iload_n 0, 1) := by decide +kernel
theorem dX0_turnedX_13 : decode cX0_turnedX 13 = .ok (.iconst 2, 1) := by decide +kernel
theorem dX0_turnedX_14 : decode cX0_turnedX 14 = .ok (.if_icmp .eq 13, 3) := by decide +kernel
theorem dX0_turnedX_17 : decode cX0_turnedX 17 = .ok (.iload_n 0, 1) := by decide +kernel
theorem dX0_turnedX_18 : decode cX0_turnedX 18 = .ok (.iconst 3, 1) := by decide +kernel
theorem dX0_turnedX_19 : decode cX0_turnedX 19 = .ok (.if_icmp .eq 8, 3) := by decide +kernel
theorem dX0_turnedX_22 : decode cX0_turnedX 22 = .ok (.iload_n 0, 1) := by decide +kernel
theorem dX0_turnedX_23 : decode cX0_turnedX 23 = .ok (.iconst 5, 1) := by decide +kernel
theorem dX0_turnedX_24 : decode cX0_turnedX 24 = .ok (.if_icmp .le 8, 3) := by decide +kernel
theorem dX0_turnedX_27 : decode cX0_turnedX 27 = .ok (.iload_n 3, 1) := by decide +kernel
theorem dX0_turnedX_28 : decode cX0_turnedX 28 = .ok (.ineg, 1) := by decide +kernel
theorem dX0_turnedX_29 : decode cX0_turnedX 29 = .ok (.goto 4, 3) := by decide +kernel
theorem dX0_turnedX_32 : decode cX0_turnedX 32 = .ok (.iload_n 3, 1) := by decide +kernel
theorem dX0_turnedX_33 : decode cX0_turnedX 33 = .ok (.ireturn, 1) := by decide +kernel
theorem dX0_turnedY_0 : decode cX0_turnedY 0 = .ok (.iload_n 0, 1) := by decide +kernel
theorem dX0_turnedY_1 : decode cX0_turnedY 1 = .ok (.iconst 2, 1) := by decide +kernel
theorem dX0_turnedY_2 : decode cX0_turnedY 2 = .ok (.irem, 1) := by decide +kernel
theorem dX0_turnedY_3 : decode cX0_turnedY 3 = .ok (.ifCond .ne 7, 3) := by decide +kernel
theorem dX0_turnedY_6 : decode cX0_turnedY 6 = .ok (.iload_n 2, 1) := by decide +kernel
theorem dX0_turnedY_7 : decode cX0_turnedY 7 = .ok (.goto 4, 3) := by decide +kernel
theorem dX0_turnedY_10 : decode cX0_turnedY 10 = .ok (.iload_n 1, 1) := by decide +kernel
theorem dX0_turnedY_11 : decode cX0_turnedY 11 = .ok (.istore_n 3, 1) := by decide +kernel
theorem dX0_turnedY_12 : decode cX0_turnedY 12 = .ok (.iload_n 0, 1) := by decide +kernel
theorem dX0_turnedY_13 : decode cX0_turnedY 13 = .ok (.iconst 3, 1) := by decide +kernel
theorem dX0_turnedY_14 : decode cX0_turnedY 14 = .ok (.if_icmp .le 8, 3) := by decide +kernel
theorem dX0_turnedY_17 : decode cX0_turnedY 17 = .ok (.iload_n 3, 1) := by decide +kernel
theorem dX0_turnedY_18 : decode cX0_turnedY 18 = .ok (.ineg, 1) := by decide +kernel
theorem dX0_turnedY_19 : decode cX0_turnedY 19 = .ok (.goto 4, 3) := by decide +kernel
theorem dX0_turnedY_22 : decode cX0_turnedY 22 = .ok (.iload_n 3, 1) := by decide +kernel
theorem dX0_turnedY_23 : decode cX0_turnedY 23 = .ok (.ireturn, 1) := by decide +kernel
theorem dX0_isLess_0 : decode cX0_isLess 0 = .ok (.iconst 0, 1) := by decide +kernel
theorem dX0_isLess_1 : decode cX0_isLess 1 = .ok (.istore_n 3, 1) := by decide +kernel
theorem dX0_isLess_2 : decode cX0_isLess 2 = .ok (.iload_n 3, 1) := by decide +kernel
theorem dX0_isLess_3 : decode cX0_isLess 3 = .ok (.iload_n 2, 1) := by decide +kernel
theorem dX0_isLess_4 : decode cX0_isLess 4 = .ok (.if_icmp .ge 18, 3) := by decide +kernel
theorem dX0_isLess_7 : decode cX0_isLess 7 = .ok (.aload_n 0, 1) := by decide +kernel
theorem dX0_isLess_8 : decode cX0_isLess 8 = .ok (.iload_n 3, 1) := by decide +kernel
theorem dX0_isLess_9 : decode cX0_isLess 9 = .ok (.iaload, 1) := by decide +kernel
theorem dX0_isLess_10 : decode cX0_isLess 10 = .ok (.aload_n 1, 1) := by decide +kernel
theorem dX0_isLess_11 : decode cX0_isLess 11 = .ok (.iload_n 3, 1) := by decide +kernel
theorem dX0_isLess_12 : decode cX0_isLess 12 = .ok (.iaload, 1) := by decide +kernel
theorem dX0_isLess_13 : decode cX0_isLess 13 = .ok (.if_icmp .ne 9, 3) := by decide +kernel
theorem dX0_isLess_16 : decode cX0_isLess 16 = .ok (.iinc 3 1, 3) := by decide +kernel
theorem dX0_isLess_19 : decode cX0_isLess 19 = .ok (.goto (-17), 3) := by decide +kernel
theorem dX0_isLess_22 : decode cX0_isLess 22 = .ok (.iload_n 3, 1) := by decide +kernel
theorem dX0_isLess_23 : decode cX0_isLess 23 = .ok (.iload_n 2, 1) := by decide +kernel
theorem dX0_isLess_24 : decode cX0_isLess 24 = .ok (.if_icmp .ge 16, 3) := by decide +kernel
theorem dX0_isLess_27 : decode cX0_isLess 27 = .ok (.aload_n 0, 1) := by decide +kernel
theorem dX0_isLess_28 : decode cX0_isLess 28 = .ok (.iload_n 3, 1) := by decide +kernel
theorem dX0_isLess_29 : decode cX0_isLess 29 = .ok (.iaload, 1) := by decide +kernel
theorem dX0_isLess_30 : decode cX0_isLess 30 = .ok (.aload_n 1, 1) := by decide +kernel
theorem dX0_isLess_31 : decode cX0_isLess 31 = .ok (.iload_n 3, 1) := by decide +kernel
theorem dX0_isLess_32 : decode cX0_isLess 32 = .ok (.iaload, 1) := by decide +kernel
theorem dX0_isLess_33 : decode cX0_isLess 33 = .ok (.if_icmp .ge 7, 3) := by decide +kernel
theorem dX0_isLess_36 : decode cX0_isLess 36 = .ok (.iconst 1, 1) := by decide +kernel
theorem dX0_isLess_37 : decode cX0_isLess 37 = .ok (.goto 4, 3) := by decide +kernel
theorem dX0_isLess_40 : decode cX0_isLess 40 = .ok (.iconst 0, 1) := by decide +kernel
theorem dX0_isLess_41 : decode cX0_isLess 41 = .ok (.ireturn, 1) := by decide +kernel
theorem dX0_back_0 : decode cX0_back 0 = .ok (.aload_n 0, 1) := by decide +kernel
theorem dX0_back_1 : decode cX0_back 1 = .ok (.getfield 139, 3) := by decide +kernel
theorem dX0_back_4 : decode cX0_back 4 = .ok (.ifCond .ne 9, 3) := by decide +kernel
theorem dX0_back_7 : decode cX0_back 7 = .ok (.aload_n 0, 1) := by decide +kernel
theorem dX0_back_8 : decode cX0_back 8 = .ok (.iconst 1, 1) := by decide +kernel
theorem dX0_back_9 : decode cX0_back 9 = .ok (.putfield 151, 3) := by decide +kernel
theorem dX0_back_12 : decode cX0_back 12 = .ok (.return_, 1) := by decide +kernel
theorem dX0_back_13 : decode cX0_back 13 = .ok (.aload_n 0, 1) := by decide +kernel
theorem dX0_back_14 : decode cX0_back 14 = .ok (.dup, 1) := by decide +kernel
theorem dX0_back_15 : decode cX0_back 15 = .ok (.getfield 139, 3) := by decide +kernel
theorem dX0_back_18 : decode cX0_back 18 = .ok (.iconst 1, 1) := by decide +kernel
theorem dX0_back_19 : decode cX0_back 19 = .ok (.isub, 1) := by decide +kernel
theorem dX0_back_20 : decode cX0_back 20 = .ok (.putfield 139, 3) := by decide +kernel
theorem dX0_back_23 : decode cX0_back 23 = .ok (.aload_n 0, 1) := by decide +kernel
theorem dX0_back_24 : decode cX0_back 24 = .ok (.aload_n 0, 1) := by decide +kernel
theorem dX0_back_25 : decode cX0_back 25 = .ok (.getfield 58, 3) := by decide +kernel
theorem dX0_back_28 : decode cX0_back 28 = .ok (.aload_n 0, 1) := by decide +kernel
theorem dX0_back_29 : decode cX0_back 29 = .ok (.getfield 139, 3) := by decide +kernel
theorem dX0_back_32 : decode cX0_back 32 = .ok (.iaload, 1) := by decide +kernel
theorem dX0_back_33 : decode cX0_back 33 = .ok (.iconst 1, 1) := by decide +kernel
theorem dX0_back_34 : decode cX0_back 34 = .ok (.iadd, 1) := by decide +kernel
theorem dX0_back_35 : decode cX0_back 35 = .ok (.putfield 142, 3) := by decide +kernel
theorem dX0_back_38 : decode cX0_back 38 = .ok (.aload_n 0, 1) := by decide +kernel
theorem dX0_back_39 : decode cX0_back 39 = .ok (.getfield 55, 3) := by decide +kernel
theorem dX0_back_42 : decode cX0_back 42 = .ok (.invokevirtual 241, 3) := by decide +kernel
theorem dX0_back_45 : decode cX0_back 45 = .ok (.return_, 1) := by decide +kernel
theorem dX0_forget_0 : decode cX0_forget 0 = .ok (.aload_n 0, 1) := by decide +kernel
theorem dX0_forget_1 : decode cX0_forget 1 = .ok (.getfield 284, 3) := by decide +kernel
theorem dX0_forget_4 : decode cX0_forget 4 = .ok (.istore_n 1, 1) := by decide +kernel
theorem dX0_forget_5 : decode cX0_forget 5 = .ok (.aload_n 0, 1) := by decide +kernel
theorem dX0_forget_6 : decode cX0_forget 6 = .ok (.iconst 0, 1) := by decide +kernel
theorem dX0_forget_7 : decode cX0_forget 7 = .ok (.putfield 284, 3) := by decide +kernel
theorem dX0_forget_10 : decode cX0_forget 10 = .ok (.iload_n 1, 1) := by decide +kernel
theorem dX0_forget_11 : decode cX0_forget 11 = .ok (.ireturn, 1) := by decide +kernel
theorem dX0_told_0 : decode cX0_told 0 = .ok (.iload_n 1, 1) := by decide +kernel
theorem dX0_told_1 : decode cX0_told 1 = .ok (.tableswitch 89 0 6 #[43, 48, 53, 58, 63, 68, 81], 43) := by decide +kernel
theorem dX0_told_44 : decode cX0_told 44 = .ok (.aload_n 0, 1) := by decide +kernel
theorem dX0_told_45 : decode cX0_told 45 = .ok (.getfield 100, 3) := by decide +kernel
theorem dX0_told_48 : decode cX0_told 48 = .ok (.ireturn, 1) := by decide +kernel
theorem dX0_told_49 : decode cX0_told 49 = .ok (.aload_n 0, 1) := by decide +kernel
theorem dX0_told_50 : decode cX0_told 50 = .ok (.getfield 123, 3) := by decide +kernel
theorem dX0_told_53 : decode cX0_told 53 = .ok (.ireturn, 1) := by decide +kernel
theorem dX0_told_54 : decode cX0_told 54 = .ok (.aload_n 0, 1) := by decide +kernel
theorem dX0_told_55 : decode cX0_told 55 = .ok (.getfield 145, 3) := by decide +kernel
theorem dX0_told_58 : decode cX0_told 58 = .ok (.ireturn, 1) := by decide +kernel
theorem dX0_told_59 : decode cX0_told 59 = .ok (.aload_n 0, 1) := by decide +kernel
theorem dX0_told_60 : decode cX0_told 60 = .ok (.getfield 284, 3) := by decide +kernel
theorem dX0_told_63 : decode cX0_told 63 = .ok (.ireturn, 1) := by decide +kernel
theorem dX0_told_64 : decode cX0_told 64 = .ok (.aload_n 0, 1) := by decide +kernel
theorem dX0_told_65 : decode cX0_told 65 = .ok (.getfield 148, 3) := by decide +kernel
theorem dX0_told_68 : decode cX0_told 68 = .ok (.ireturn, 1) := by decide +kernel
theorem dX0_told_69 : decode cX0_told 69 = .ok (.aload_n 0, 1) := by decide +kernel
theorem dX0_told_70 : decode cX0_told 70 = .ok (.getfield 151, 3) := by decide +kernel
theorem dX0_told_73 : decode cX0_told 73 = .ok (.ifCond .eq 7, 3) := by decide +kernel
theorem dX0_told_76 : decode cX0_told 76 = .ok (.iconst 1, 1) := by decide +kernel
theorem dX0_told_77 : decode cX0_told 77 = .ok (.goto 4, 3) := by decide +kernel
theorem dX0_told_80 : decode cX0_told 80 = .ok (.iconst 0, 1) := by decide +kernel
theorem dX0_told_81 : decode cX0_told 81 = .ok (.ireturn, 1) := by decide +kernel
theorem dX0_told_82 : decode cX0_told 82 = .ok (.aload_n 0, 1) := by decide +kernel
theorem dX0_told_83 : decode cX0_told 83 = .ok (.getfield 51, 3) := by decide +kernel
theorem dX0_told_86 : decode cX0_told 86 = .ok (.getfield 229, 3) := by decide +kernel
theorem dX0_told_89 : decode cX0_told 89 = .ok (.ireturn, 1) := by decide +kernel
theorem dX0_told_90 : decode cX0_told 90 = .ok (.iconst (-1), 1) := by decide +kernel
theorem dX0_told_91 : decode cX0_told 91 = .ok (.ireturn, 1) := by decide +kernel
theorem dX0_best_0 : decode cX0_best 0 = .ok (.iload_n 1, 1) := by decide +kernel
theorem dX0_best_1 : decode cX0_best 1 = .ok (.iconst 0, 1) := by decide +kernel
theorem dX0_best_2 : decode cX0_best 2 = .ok (.iconst 4, 1) := by decide +kernel
theorem dX0_best_3 : decode cX0_best 3 = .ok (.invokestatic 169, 3) := by decide +kernel
theorem dX0_best_6 : decode cX0_best 6 = .ok (.ifCond .ne 5, 3) := by decide +kernel
theorem dX0_best_9 : decode cX0_best 9 = .ok (.iconst (-1), 1) := by decide +kernel
theorem dX0_best_10 : decode cX0_best 10 = .ok (.ireturn, 1) := by decide +kernel
theorem dX0_best_11 : decode cX0_best 11 = .ok (.aload_n 0, 1) := by decide +kernel
theorem dX0_best_12 : decode cX0_best 12 = .ok (.getfield 155, 3) := by decide +kernel
theorem dX0_best_15 : decode cX0_best 15 = .ok (.bipush (-9), 2) := by decide +kernel
theorem dX0_best_17 : decode cX0_best 17 = .ok (.if_icmp .eq 16, 3) := by decide +kernel
theorem dX0_best_20 : decode cX0_best 20 = .ok (.iload_n 1, 1) := by decide +kernel
theorem dX0_best_21 : decode cX0_best 21 = .ok (.iconst 2, 1) := by decide +kernel
theorem dX0_best_22 : decode cX0_best 22 = .ok (.if_icmp .le 25, 3) := by decide +kernel
theorem dX0_best_25 : decode cX0_best 25 = .ok (.aload_n 0, 1) := by decide +kernel
theorem dX0_best_26 : decode cX0_best 26 = .ok (.iload_n 2, 1) := by decide +kernel
theorem dX0_best_27 : decode cX0_best 27 = .ok (.invokevirtual 173, 3) := by decide +kernel
theorem dX0_best_30 : decode cX0_best 30 = .ok (.ifCond .ne 17, 3) := by decide +kernel
theorem dX0_best_33 : decode cX0_best 33 = .ok (.iload_n 1, 1) := by decide +kernel
theorem dX0_best_34 : decode cX0_best 34 = .ok (.iconst 2, 1) := by decide +kernel
theorem dX0_best_35 : decode cX0_best 35 = .ok (.if_icmp .le 9, 3) := by decide +kernel
theorem dX0_best_38 : decode cX0_best 38 = .ok (.sipush (-1000), 3) := by decide +kernel
theorem dX0_best_41 : decode cX0_best 41 = .ok (.goto 5, 3) := by decide +kernel
theorem dX0_best_44 : decode cX0_best 44 = .ok (.bipush (-9), 2) := by decide +kernel
theorem dX0_best_46 : decode cX0_best 46 = .ok (.ireturn, 1) := by decide +kernel
theorem dX0_best_47 : decode cX0_best 47 = .ok (.iload_n 1, 1) := by decide +kernel
theorem dX0_best_48 : decode cX0_best 48 = .ok (.ifCond .ne 10, 3) := by decide +kernel
theorem dX0_best_51 : decode cX0_best 51 = .ok (.aload_n 0, 1) := by decide +kernel
theorem dX0_best_52 : decode cX0_best 52 = .ok (.getfield 252, 3) := by decide +kernel
theorem dX0_best_55 : decode cX0_best 55 = .ok (.goto 47, 3) := by decide +kernel
theorem dX0_best_58 : decode cX0_best 58 = .ok (.iload_n 1, 1) := by decide +kernel
theorem dX0_best_59 : decode cX0_best 59 = .ok (.iconst 1, 1) := by decide +kernel
theorem dX0_best_60 : decode cX0_best 60 = .ok (.if_icmp .ne 10, 3) := by decide +kernel
theorem dX0_best_63 : decode cX0_best 63 = .ok (.aload_n 0, 1) := by decide +kernel
theorem dX0_best_64 : decode cX0_best 64 = .ok (.getfield 255, 3) := by decide +kernel
theorem dX0_best_67 : decode cX0_best 67 = .ok (.goto 35, 3) := by decide +kernel
theorem dX0_best_70 : decode cX0_best 70 = .ok (.iload_n 1, 1) := by decide +kernel
theorem dX0_best_71 : decode cX0_best 71 = .ok (.iconst 2, 1) := by decide +kernel
theorem dX0_best_72 : decode cX0_best 72 = .ok (.if_icmp .ne 10, 3) := by decide +kernel
theorem dX0_best_75 : decode cX0_best 75 = .ok (.aload_n 0, 1) := by decide +kernel
theorem dX0_best_76 : decode cX0_best 76 = .ok (.getfield 155, 3) := by decide +kernel
theorem dX0_best_79 : decode cX0_best 79 = .ok (.goto 23, 3) := by decide +kernel
theorem dX0_best_82 : decode cX0_best 82 = .ok (.iload_n 1, 1) := by decide +kernel
theorem dX0_best_83 : decode cX0_best 83 = .ok (.iconst 3, 1) := by decide +kernel
theorem dX0_best_84 : decode cX0_best 84 = .ok (.if_icmp .ne 12, 3) := by decide +kernel
theorem dX0_best_87 : decode cX0_best 87 = .ok (.aload_n 0, 1) := by decide +kernel
theorem dX0_best_88 : decode cX0_best 88 = .ok (.getfield 61, 3) := by decide +kernel
theorem dX0_best_91 : decode cX0_best 91 = .ok (.iload_n 2, 1) := by decide +kernel
theorem dX0_best_92 : decode cX0_best 92 = .ok (.iaload, 1) := by decide +kernel
theorem dX0_best_93 : decode cX0_best 93 = .ok (.goto 9, 3) := by decide +kernel
theorem dX0_best_96 : decode cX0_best 96 = .ok (.aload_n 0, 1) := by decide +kernel
theorem dX0_best_97 : decode cX0_best 97 = .ok (.getfield 64, 3) := by decide +kernel
theorem dX0_best_100 : decode cX0_best 100 = .ok (.iload_n 2, 1) := by decide +kernel
theorem dX0_best_101 : decode cX0_best 101 = .ok (.iaload, 1) := by decide +kernel
theorem dX0_best_102 : decode cX0_best 102 = .ok (.ireturn, 1) := by decide +kernel
theorem dX0_size_0 : decode cX0_size 0 = .ok (.iload_n 1, 1) := by decide +kernel
theorem dX0_size_1 : decode cX0_size 1 = .ok (.iconst 0, 1) := by decide +kernel
theorem dX0_size_2 : decode cX0_size 2 = .ok (.aload_n 0, 1) := by decide +kernel
theorem dX0_size_3 : decode cX0_size 3 = .ok (.getfield 284, 3) := by decide +kernel
theorem dX0_size_6 : decode cX0_size 6 = .ok (.iconst 1, 1) := by decide +kernel
theorem dX0_size_7 : decode cX0_size 7 = .ok (.isub, 1) := by decide +kernel
theorem dX0_size_8 : decode cX0_size 8 = .ok (.invokestatic 169, 3) := by decide +kernel
theorem dX0_size_11 : decode cX0_size 11 = .ok (.ifCond .eq 12, 3) := by decide +kernel
theorem dX0_size_14 : decode cX0_size 14 = .ok (.aload_n 0, 1) := by decide +kernel
theorem dX0_size_15 : decode cX0_size 15 = .ok (.getfield 72, 3) := by decide +kernel
theorem dX0_size_18 : decode cX0_size 18 = .ok (.iload_n 1, 1) := by decide +kernel
theorem dX0_size_19 : decode cX0_size 19 = .ok (.iaload, 1) := by decide +kernel
theorem dX0_size_20 : decode cX0_size 20 = .ok (.goto 4, 3) := by decide +kernel
theorem dX0_size_23 : decode cX0_size 23 = .ok (.iconst (-1), 1) := by decide +kernel
theorem dX0_size_24 : decode cX0_size 24 = .ok (.ireturn, 1) := by decide +kernel
theorem dX0_shape_0 : decode cX0_shape 0 = .ok (.iload_n 1, 1) := by decide +kernel
theorem dX0_shape_1 : decode cX0_shape 1 = .ok (.iconst 0, 1) := by decide +kernel
theorem dX0_shape_2 : decode cX0_shape 2 = .ok (.aload_n 0, 1) := by decide +kernel
theorem dX0_shape_3 : decode cX0_shape 3 = .ok (.getfield 284, 3) := by decide +kernel
theorem dX0_shape_6 : decode cX0_shape 6 = .ok (.iconst 1, 1) := by decide +kernel
theorem dX0_shape_7 : decode cX0_shape 7 = .ok (.isub, 1) := by decide +kernel
theorem dX0_shape_8 : decode cX0_shape 8 = .ok (.invokestatic 169, 3) := by decide +kernel
theorem dX0_shape_11 : decode cX0_shape 11 = .ok (.ifCond .eq 28, 3) := by decide +kernel
theorem dX0_shape_14 : decode cX0_shape 14 = .ok (.iload_n 2, 1) := by decide +kernel
theorem dX0_shape_15 : decode cX0_shape 15 = .ok (.iconst 0, 1) := by decide +kernel
theorem dX0_shape_16 : decode cX0_shape 16 = .ok (.aload_n 0, 1) := by decide +kernel
theorem dX0_shape_17 : decode cX0_shape 17 = .ok (.getfield 72, 3) := by decide +kernel
theorem dX0_shape_20 : decode cX0_shape 20 = .ok (.iload_n 1, 1) := by decide +kernel
theorem dX0_shape_21 : decode cX0_shape 21 = .ok (.iaload, 1) := by decide +kernel
theorem dX0_shape_22 : decode cX0_shape 22 = .ok (.iconst 1, 1) := by decide +kernel
theorem dX0_shape_23 : decode cX0_shape 23 = .ok (.isub, 1) := by decide +kernel
theorem dX0_shape_24 : decode cX0_shape 24 = .ok (.invokestatic 169, 3) := by decide +kernel
theorem dX0_shape_27 : decode cX0_shape 27 = .ok (.ifCond .eq 12, 3) := by decide +kernel
theorem dX0_shape_30 : decode cX0_shape 30 = .ok (.iload_n 3, 1) := by decide +kernel
theorem dX0_shape_31 : decode cX0_shape 31 = .ok (.iconst 0, 1) := by decide +kernel
theorem dX0_shape_32 : decode cX0_shape 32 = .ok (.iconst 1, 1) := by decide +kernel
theorem dX0_shape_33 : decode cX0_shape 33 = .ok (.invokestatic 169, 3) := by decide +kernel
theorem dX0_shape_36 : decode cX0_shape 36 = .ok (.ifCond .ne 5, 3) := by decide +kernel
theorem dX0_shape_39 : decode cX0_shape 39 = .ok (.iconst (-1), 1) := by decide +kernel
theorem dX0_shape_40 : decode cX0_shape 40 = .ok (.ireturn, 1) := by decide +kernel
theorem dX0_shape_41 : decode cX0_shape 41 = .ok (.iload_n 3, 1) := by decide +kernel
theorem dX0_shape_42 : decode cX0_shape 42 = .ok (.ifCond .ne 17, 3) := by decide +kernel
theorem dX0_shape_45 : decode cX0_shape 45 = .ok (.aload_n 0, 1) := by decide +kernel
theorem dX0_shape_46 : decode cX0_shape 46 = .ok (.getfield 68, 3) := by decide +kernel
theorem dX0_shape_49 : decode cX0_shape 49 = .ok (.iload_n 1, 1) := by decide +kernel
theorem dX0_shape_50 : decode cX0_shape 50 = .ok (.aaload, 1) := by decide +kernel
theorem dX0_shape_51 : decode cX0_shape 51 = .ok (.iload_n 2, 1) := by decide +kernel
theorem dX0_shape_52 : decode cX0_shape 52 = .ok (.iaload, 1) := by decide +kernel
theorem dX0_shape_53 : decode cX0_shape 53 = .ok (.bipush 32, 2) := by decide +kernel
theorem dX0_shape_55 : decode cX0_shape 55 = .ok (.irem, 1) := by decide +kernel
theorem dX0_shape_56 : decode cX0_shape 56 = .ok (.goto 14, 3) := by decide +kernel
theorem dX0_shape_59 : decode cX0_shape 59 = .ok (.aload_n 0, 1) := by decide +kernel
theorem dX0_shape_60 : decode cX0_shape 60 = .ok (.getfield 68, 3) := by decide +kernel
theorem dX0_shape_63 : decode cX0_shape 63 = .ok (.iload_n 1, 1) := by decide +kernel
theorem dX0_shape_64 : decode cX0_shape 64 = .ok (.aaload, 1) := by decide +kernel
theorem dX0_shape_65 : decode cX0_shape 65 = .ok (.iload_n 2, 1) := by decide +kernel
theorem dX0_shape_66 : decode cX0_shape 66 = .ok (.iaload, 1) := by decide +kernel
theorem dX0_shape_67 : decode cX0_shape 67 = .ok (.bipush 32, 2) := by decide +kernel
theorem dX0_shape_69 : decode cX0_shape 69 = .ok (.idiv, 1) := by decide +kernel
theorem dX0_shape_70 : decode cX0_shape 70 = .ok (.ireturn, 1) := by decide +kernel
theorem dX0_wraps_0 : decode cX0_wraps 0 = .ok (.iload_n 1, 1) := by decide +kernel
theorem dX0_wraps_1 : decode cX0_wraps 1 = .ok (.iconst 0, 1) := by decide +kernel
theorem dX0_wraps_2 : decode cX0_wraps 2 = .ok (.aload_n 0, 1) := by decide +kernel
theorem dX0_wraps_3 : decode cX0_wraps 3 = .ok (.getfield 284, 3) := by decide +kernel
theorem dX0_wraps_6 : decode cX0_wraps 6 = .ok (.iconst 1, 1) := by decide +kernel
theorem dX0_wraps_7 : decode cX0_wraps 7 = .ok (.isub, 1) := by decide +kernel
theorem dX0_wraps_8 : decode cX0_wraps 8 = .ok (.invokestatic 169, 3) := by decide +kernel
theorem dX0_wraps_11 : decode cX0_wraps 11 = .ok (.ifCond .ne 5, 3) := by decide +kernel
theorem dX0_wraps_14 : decode cX0_wraps 14 = .ok (.iconst (-1), 1) := by decide +kernel
theorem dX0_wraps_15 : decode cX0_wraps 15 = .ok (.ireturn, 1) := by decide +kernel
theorem dX0_wraps_16 : decode cX0_wraps 16 = .ok (.aload_n 0, 1) := by decide +kernel
theorem dX0_wraps_17 : decode cX0_wraps 17 = .ok (.getfield 100, 3) := by decide +kernel
theorem dX0_wraps_20 : decode cX0_wraps 20 = .ok (.ifCond .ne 6, 3) := by decide +kernel
theorem dX0_wraps_23 : decode cX0_wraps 23 = .ok (.bipush (-2), 2) := by decide +kernel
theorem dX0_wraps_25 : decode cX0_wraps 25 = .ok (.ireturn, 1) := by decide +kernel
theorem dX0_wraps_26 : decode cX0_wraps 26 = .ok (.iconst 0, 1) := by decide +kernel
theorem dX0_wraps_27 : decode cX0_wraps 27 = .ok (.istore_n 2, 1) := by decide +kernel
theorem dX0_wraps_28 : decode cX0_wraps 28 = .ok (.iconst 0, 1) := by decide +kernel
theorem dX0_wraps_29 : decode cX0_wraps 29 = .ok (.istore_n 3, 1) := by decide +kernel
theorem dX0_wraps_30 : decode cX0_wraps 30 = .ok (.iload_n 3, 1) := by decide +kernel
theorem dX0_wraps_31 : decode cX0_wraps 31 = .ok (.bipush 8, 2) := by decide +kernel
theorem dX0_wraps_33 : decode cX0_wraps 33 = .ok (.if_icmp .ge 64, 3) := by decide +kernel
theorem dX0_wraps_36 : decode cX0_wraps 36 = .ok (.aload_n 0, 1) := by decide +kernel
theorem dX0_wraps_37 : decode cX0_wraps 37 = .ok (.getfield 72, 3) := by decide +kernel
theorem dX0_wraps_40 : decode cX0_wraps 40 = .ok (.iload_n 1, 1) := by decide +kernel
theorem dX0_wraps_41 : decode cX0_wraps 41 = .ok (.iaload, 1) := by decide +kernel
theorem dX0_wraps_42 : decode cX0_wraps 42 = .ok (.aload_n 0, 1) := by decide +kernel
theorem dX0_wraps_43 : decode cX0_wraps 43 = .ok (.getfield 123, 3) := by decide +kernel
theorem dX0_wraps_46 : decode cX0_wraps 46 = .ok (.if_icmp .ne 51, 3) := by decide +kernel
theorem dX0_wraps_49 : decode cX0_wraps 49 = .ok (.aload_n 0, 1) := by decide +kernel
theorem dX0_wraps_50 : decode cX0_wraps 50 = .ok (.iload_n 1, 1) := by decide +kernel
theorem dX0_wraps_51 : decode cX0_wraps 51 = .ok (.iload_n 3, 1) := by decide +kernel
theorem dX0_wraps_52 : decode cX0_wraps 52 = .ok (.invokevirtual 305, 3) := by decide +kernel
theorem dX0_wraps_55 : decode cX0_wraps 55 = .ok (.iconst 0, 1) := by decide +kernel
theorem dX0_wraps_56 : decode cX0_wraps 56 = .ok (.istore 4, 2) := by decide +kernel
theorem dX0_wraps_58 : decode cX0_wraps 58 = .ok (.iload 4, 2) := by decide +kernel
theorem dX0_wraps_60 : decode cX0_wraps 60 = .ok (.aload_n 0, 1) := by decide +kernel
theorem dX0_wraps_61 : decode cX0_wraps 61 = .ok (.getfield 123, 3) := by decide +kernel
theorem dX0_wraps_64 : decode cX0_wraps 64 = .ok (.if_icmp .ge 27, 3) := by decide +kernel
theorem dX0_wraps_67 : decode cX0_wraps 67 = .ok (.iload_n 2, 1) := by decide +kernel
theorem dX0_wraps_68 : decode cX0_wraps 68 = .ok (.aload_n 0, 1) := by decide +kernel
theorem dX0_wraps_69 : decode cX0_wraps 69 = .ok (.iload_n 1, 1) := by decide +kernel
theorem dX0_wraps_70 : decode cX0_wraps 70 = .ok (.iload 4, 2) := by decide +kernel
theorem dX0_wraps_72 : decode cX0_wraps 72 = .ok (.invokevirtual 308, 3) := by decide +kernel
theorem dX0_wraps_75 : decode cX0_wraps 75 = .ok (.ifCond .eq 7, 3) := by decide +kernel
theorem dX0_wraps_78 : decode cX0_wraps 78 = .ok (.iconst 1, 1) := by decide +kernel
theorem dX0_wraps_79 : decode cX0_wraps 79 = .ok (.goto 4, 3) := by decide +kernel
theorem dX0_wraps_82 : decode cX0_wraps 82 = .ok (.iconst 0, 1) := by decide +kernel
theorem dX0_wraps_83 : decode cX0_wraps 83 = .ok (.iadd, 1) := by decide +kernel
theorem dX0_wraps_84 : decode cX0_wraps 84 = .ok (.istore_n 2, 1) := by decide +kernel
theorem dX0_wraps_85 : decode cX0_wraps 85 = .ok (.iinc 4 1, 3) := by decide +kernel
theorem dX0_wraps_88 : decode cX0_wraps 88 = .ok (.goto (-30), 3) := by decide +kernel
theorem dX0_wraps_91 : decode cX0_wraps 91 = .ok (.iinc 3 1, 3) := by decide +kernel
theorem dX0_wraps_94 : decode cX0_wraps 94 = .ok (.goto (-64), 3) := by decide +kernel
theorem dX0_wraps_97 : decode cX0_wraps 97 = .ok (.iload_n 2, 1) := by decide +kernel
theorem dX0_wraps_98 : decode cX0_wraps 98 = .ok (.ireturn, 1) := by decide +kernel
theorem dX0_findBeside_0 : decode cX0_findBeside 0 = .ok (.aload_n 0, 1) := by decide +kernel
theorem dX0_findBeside_1 : decode cX0_findBeside 1 = .ok (.getfield 90, 3) := by decide +kernel
theorem dX0_findBeside_4 : decode cX0_findBeside 4 = .ok (.bipush (-9), 2) := by decide +kernel
theorem dX0_findBeside_6 : decode cX0_findBeside 6 = .ok (.invokestatic 287, 3) := by decide +kernel
theorem dX0_findBeside_9 : decode cX0_findBeside 9 = .ok (.iconst 0, 1) := by decide +kernel
theorem dX0_findBeside_10 : decode cX0_findBeside 10 = .ok (.istore_n 3, 1) := by decide +kernel
theorem dX0_findBeside_11 : decode cX0_findBeside 11 = .ok (.iload_n 3, 1) := by decide +kernel
theorem dX0_findBeside_12 : decode cX0_findBeside 12 = .ok (.aload_n 0, 1) := by decide +kernel
theorem dX0_findBeside_13 : decode cX0_findBeside 13 = .ok (.getfield 72, 3) := by decide +kernel
theorem dX0_findBeside_16 : decode cX0_findBeside 16 = .ok (.iload_n 1, 1) := by decide +kernel
theorem dX0_findBeside_17 : decode cX0_findBeside 17 = .ok (.iaload, 1) := by decide +kernel
theorem dX0_findBeside_18 : decode cX0_findBeside 18 = .ok (.if_icmp .ge 122, 3) := by decide +kernel
theorem dX0_findBeside_21 : decode cX0_findBeside 21 = .ok (.iconst 0, 1) := by decide +kernel
theorem dX0_findBeside_22 : decode cX0_findBeside 22 = .ok (.istore 4, 2) := by decide +kernel
theorem dX0_findBeside_24 : decode cX0_findBeside 24 = .ok (.iload 4, 2) := by decide +kernel
theorem dX0_findBeside_26 : decode cX0_findBeside 26 = .ok (.aload_n 0, 1) := by decide +kernel
theorem dX0_findBeside_27 : decode cX0_findBeside 27 = .ok (.getfield 72, 3) := by decide +kernel
theorem dX0_findBeside_30 : decode cX0_findBeside 30 = .ok (.iload_n 1, 1) := by decide +kernel
theorem dX0_findBeside_31 : decode cX0_findBeside 31 = .ok (.iaload, 1) := by decide +kernel
theorem dX0_findBeside_32 : decode cX0_findBeside 32 = .ok (.if_icmp .ge 102, 3) := by decide +kernel
theorem dX0_findBeside_35 : decode cX0_findBeside 35 = .ok (.aload_n 0, 1) := by decide +kernel
theorem dX0_findBeside_36 : decode cX0_findBeside 36 = .ok (.iload_n 1, 1) := by decide +kernel
theorem dX0_findBeside_37 : decode cX0_findBeside 37 = .ok (.iload 4, 2) := by decide +kernel
theorem dX0_findBeside_39 : decode cX0_findBeside 39 = .ok (.iload_n 2, 1) := by decide +kernel
theorem dX0_findBeside_40 : decode cX0_findBeside 40 = .ok (.invokevirtual 290, 3) := by decide +kernel
theorem dX0_findBeside_43 : decode cX0_findBeside 43 = .ok (.aload_n 0, 1) := by decide +kernel
theorem dX0_findBeside_44 : decode cX0_findBeside 44 = .ok (.iload_n 1, 1) := by decide +kernel
theorem dX0_findBeside_45 : decode cX0_findBeside 45 = .ok (.iload_n 3, 1) := by decide +kernel
theorem dX0_findBeside_46 : decode cX0_findBeside 46 = .ok (.iload_n 2, 1) := by decide +kernel
theorem dX0_findBeside_47 : decode cX0_findBeside 47 = .ok (.invokevirtual 290, 3) := by decide +kernel
theorem dX0_findBeside_50 : decode cX0_findBeside 50 = .ok (.isub, 1) := by decide +kernel
theorem dX0_findBeside_51 : decode cX0_findBeside 51 = .ok (.istore 5, 2) := by decide +kernel
theorem dX0_findBeside_53 : decode cX0_findBeside 53 = .ok (.aload_n 0, 1) := by decide +kernel
theorem dX0_findBeside_54 : decode cX0_findBeside 54 = .ok (.iload_n 1, 1) := by decide +kernel
theorem dX0_findBeside_55 : decode cX0_findBeside 55 = .ok (.iload 4, 2) := by decide +kernel
theorem dX0_findBeside_57 : decode cX0_findBeside 57 = .ok (.iload_n 2, 1) := by decide +kernel
theorem dX0_findBeside_58 : decode cX0_findBeside 58 = .ok (.invokevirtual 293, 3) := by decide +kernel
theorem dX0_findBeside_61 : decode cX0_findBeside 61 = .ok (.aload_n 0, 1) := by decide +kernel
theorem dX0_findBeside_62 : decode cX0_findBeside 62 = .ok (.iload_n 1, 1) := by decide +kernel
theorem dX0_findBeside_63 : decode cX0_findBeside 63 = .ok (.iload_n 3, 1) := by decide +kernel
theorem dX0_findBeside_64 : decode cX0_findBeside 64 = .ok (.iload_n 2, 1) := by decide +kernel
theorem dX0_findBeside_65 : decode cX0_findBeside 65 = .ok (.invokevirtual 293, 3) := by decide +kernel
theorem dX0_findBeside_68 : decode cX0_findBeside 68 = .ok (.isub, 1) := by decide +kernel
theorem dX0_findBeside_69 : decode cX0_findBeside 69 = .ok (.istore 6, 2) := by decide +kernel
theorem dX0_findBeside_71 : decode cX0_findBeside 71 = .ok (.iload 5, 2) := by decide +kernel
theorem dX0_findBeside_73 : decode cX0_findBeside 73 = .ok (.iload 5, 2) := by decide +kernel
theorem dX0_findBeside_75 : decode cX0_findBeside 75 = .ok (.imul, 1) := by decide +kernel
theorem dX0_findBeside_76 : decode cX0_findBeside 76 = .ok (.iload 6, 2) := by decide +kernel
theorem dX0_findBeside_78 : decode cX0_findBeside 78 = .ok (.iload 6, 2) := by decide +kernel
theorem dX0_findBeside_80 : decode cX0_findBeside 80 = .ok (.imul, 1) := by decide +kernel
theorem dX0_findBeside_81 : decode cX0_findBeside 81 = .ok (.iadd, 1) := by decide +kernel
theorem dX0_findBeside_82 : decode cX0_findBeside 82 = .ok (.iconst 1, 1) := by decide +kernel
theorem dX0_findBeside_83 : decode cX0_findBeside 83 = .ok (.if_icmp .ne 45, 3) := by decide +kernel
theorem dX0_findBeside_86 : decode cX0_findBeside 86 = .ok (.aload_n 0, 1) := by decide +kernel
theorem dX0_findBeside_87 : decode cX0_findBeside 87 = .ok (.getfield 90, 3) := by decide +kernel
theorem dX0_findBeside_90 : decode cX0_findBeside 90 = .ok (.iconst 4, 1) := by decide +kernel
theorem dX0_findBeside_91 : decode cX0_findBeside 91 = .ok (.iload_n 3, 1) := by decide +kernel
theorem dX0_findBeside_92 : decode cX0_findBeside 92 = .ok (.imul, 1) := by decide +kernel
theorem dX0_findBeside_93 : decode cX0_findBeside 93 = .ok (.iload 5, 2) := by decide +kernel
theorem dX0_findBeside_95 : decode cX0_findBeside 95 = .ok (.iconst 1, 1) := by decide +kernel
theorem dX0_findBeside_96 : decode cX0_findBeside 96 = .ok (.if_icmp .ne 7, 3) := by decide +kernel
theorem dX0_findBeside_99 : decode cX0_findBeside 99 = .ok (.iconst 0, 1) := by decide +kernel
theorem dX0_findBeside_100 : decode cX0_findBeside 100 = .ok (.goto 24, 3) := by decide +kernel
theorem dX0_findBeside_103 : decode cX0_findBeside 103 = .ok (.iload 6, 2) := by decide +kernel
theorem dX0_findBeside_105 : decode cX0_findBeside 105 = .ok (.iconst 1, 1) := by decide +kernel
theorem dX0_findBeside_106 : decode cX0_findBeside 106 = .ok (.if_icmp .ne 7, 3) := by decide +kernel
theorem dX0_findBeside_109 : decode cX0_findBeside 109 = .ok (.iconst 1, 1) := by decide +kernel
theorem dX0_findBeside_110 : decode cX0_findBeside 110 = .ok (.goto 14, 3) := by decide +kernel
theorem dX0_findBeside_113 : decode cX0_findBeside 113 = .ok (.iload 5, 2) := by decide +kernel
theorem dX0_findBeside_115 : decode cX0_findBeside 115 = .ok (.iconst (-1), 1) := by decide +kernel
theorem dX0_findBeside_116 : decode cX0_findBeside 116 = .ok (.if_icmp .ne 7, 3) := by decide +kernel
theorem dX0_findBeside_119 : decode cX0_findBeside 119 = .ok (.iconst 2, 1) := by decide +kernel
theorem dX0_findBeside_120 : decode cX0_findBeside 120 = .ok (.goto 4, 3) := by decide +kernel
theorem dX0_findBeside_123 : decode cX0_findBeside 123 = .ok (.iconst 3, 1) := by decide +kernel
theorem dX0_findBeside_124 : decode cX0_findBeside 124 = .ok (.iadd, 1) := by decide +kernel
theorem dX0_findBeside_125 : decode cX0_findBeside 125 = .ok (.iload 4, 2) := by decide +kernel
theorem dX0_findBeside_127 : decode cX0_findBeside 127 = .ok (.iastore, 1) := by decide +kernel
theorem dX0_findBeside_128 : decode cX0_findBeside 128 = .ok (.iinc 4 1, 3) := by decide +kernel
theorem dX0_findBeside_131 : decode cX0_findBeside 131 = .ok (.goto (-107), 3) := by decide +kernel
theorem dX0_findBeside_134 : decode cX0_findBeside 134 = .ok (.iinc 3 1, 3) := by decide +kernel
theorem dX0_findBeside_137 : decode cX0_findBeside 137 = .ok (.goto (-126), 3) := by decide +kernel
theorem dX0_findBeside_140 : decode cX0_findBeside 140 = .ok (.return_, 1) := by decide +kernel
theorem dX0_imageX_0 : decode cX0_imageX 0 = .ok (.iload_n 3, 1) := by decide +kernel
theorem dX0_imageX_1 : decode cX0_imageX 1 = .ok (.aload_n 0, 1) := by decide +kernel
theorem dX0_imageX_2 : decode cX0_imageX 2 = .ok (.getfield 68, 3) := by decide +kernel
theorem dX0_imageX_5 : decode cX0_imageX 5 = .ok (.iload_n 1, 1) := by decide +kernel
theorem dX0_imageX_6 : decode cX0_imageX 6 = .ok (.aaload, 1) := by decide +kernel
theorem dX0_imageX_7 : decode cX0_imageX 7 = .ok (.iload_n 2, 1) := by decide +kernel
theorem dX0_imageX_8 : decode cX0_imageX 8 = .ok (.iaload, 1) := by decide +kernel
theorem dX0_imageX_9 : decode cX0_imageX 9 = .ok (.bipush 32, 2) := by decide +kernel
theorem dX0_imageX_11 : decode cX0_imageX 11 = .ok (.irem, 1) := by decide +kernel
theorem dX0_imageX_12 : decode cX0_imageX 12 = .ok (.aload_n 0, 1) := by decide +kernel
theorem dX0_imageX_13 : decode cX0_imageX 13 = .ok (.getfield 68, 3) := by decide +kernel
theorem dX0_imageX_16 : decode cX0_imageX 16 = .ok (.iload_n 1, 1) := by decide +kernel
theorem dX0_imageX_17 : decode cX0_imageX 17 = .ok (.aaload, 1) := by decide +kernel
theorem dX0_imageX_18 : decode cX0_imageX 18 = .ok (.iload_n 2, 1) := by decide +kernel
theorem dX0_imageX_19 : decode cX0_imageX 19 = .ok (.iaload, 1) := by decide +kernel
theorem dX0_imageX_20 : decode cX0_imageX 20 = .ok (.bipush 32, 2) := by decide +kernel
theorem dX0_imageX_22 : decode cX0_imageX 22 = .ok (.idiv, 1) := by decide +kernel
theorem dX0_imageX_23 : decode cX0_imageX 23 = .ok (.invokestatic 267, 3) := by decide +kernel
theorem dX0_imageX_26 : decode cX0_imageX 26 = .ok (.ireturn, 1) := by decide +kernel
theorem dX0_imageY_0 : decode cX0_imageY 0 = .ok (.iload_n 3, 1) := by decide +kernel
theorem dX0_imageY_1 : decode cX0_imageY 1 = .ok (.aload_n 0, 1) := by decide +kernel
theorem dX0_imageY_2 : decode cX0_imageY 2 = .ok (.getfield 68, 3) := by decide +kernel
theorem dX0_imageY_5 : decode cX0_imageY 5 = .ok (.iload_n 1, 1) := by decide +kernel
theorem dX0_imageY_6 : decode cX0_imageY 6 = .ok (.aaload, 1) := by decide +kernel
theorem dX0_imageY_7 : decode cX0_imageY 7 = .ok (.iload_n 2, 1) := by decide +kernel
theorem dX0_imageY_8 : decode cX0_imageY 8 = .ok (.iaload, 1) := by decide +kernel
theorem dX0_imageY_9 : decode cX0_imageY 9 = .ok (.bipush 32, 2) := by decide +kernel
theorem dX0_imageY_11 : decode cX0_imageY 11 = .ok (.irem, 1) := by decide +kernel
theorem dX0_imageY_12 : decode cX0_imageY 12 = .ok (.aload_n 0, 1) := by decide +kernel
theorem dX0_imageY_13 : decode cX0_imageY 13 = .ok (.getfield 68, 3) := by decide +kernel
theorem dX0_imageY_16 : decode cX0_imageY 16 = .ok (.iload_n 1, 1) := by decide +kernel
theorem dX0_imageY_17 : decode cX0_imageY 17 = .ok (.aaload, 1) := by decide +kernel
theorem dX0_imageY_18 : decode cX0_imageY 18 = .ok (.iload_n 2, 1) := by decide +kernel
theorem dX0_imageY_19 : decode cX0_imageY 19 = .ok (.iaload, 1) := by decide +kernel
theorem dX0_imageY_20 : decode cX0_imageY 20 = .ok (.bipush 32, 2) := by decide +kernel
theorem dX0_imageY_22 : decode cX0_imageY 22 = .ok (.idiv, 1) := by decide +kernel
theorem dX0_imageY_23 : decode cX0_imageY 23 = .ok (.invokestatic 270, 3) := by decide +kernel
theorem dX0_imageY_26 : decode cX0_imageY 26 = .ok (.ireturn, 1) := by decide +kernel
theorem dX0_isWrapped_0 : decode cX0_isWrapped 0 = .ok (.aload_n 0, 1) := by decide +kernel
theorem dX0_isWrapped_1 : decode cX0_isWrapped 1 = .ok (.getfield 72, 3) := by decide +kernel
theorem dX0_isWrapped_4 : decode cX0_isWrapped 4 = .ok (.iload_n 1, 1) := by decide +kernel
theorem dX0_isWrapped_5 : decode cX0_isWrapped 5 = .ok (.iaload, 1) := by decide +kernel
theorem dX0_isWrapped_6 : decode cX0_isWrapped 6 = .ok (.istore_n 3, 1) := by decide +kernel
theorem dX0_isWrapped_7 : decode cX0_isWrapped 7 = .ok (.aload_n 0, 1) := by decide +kernel
theorem dX0_isWrapped_8 : decode cX0_isWrapped 8 = .ok (.getfield 81, 3) := by decide +kernel
theorem dX0_isWrapped_11 : decode cX0_isWrapped 11 = .ok (.bipush (-9), 2) := by decide +kernel
theorem dX0_isWrapped_13 : decode cX0_isWrapped 13 = .ok (.invokestatic 287, 3) := by decide +kernel
theorem dX0_isWrapped_16 : decode cX0_isWrapped 16 = .ok (.aload_n 0, 1) := by decide +kernel
theorem dX0_isWrapped_17 : decode cX0_isWrapped 17 = .ok (.getfield 81, 3) := by decide +kernel
theorem dX0_isWrapped_20 : decode cX0_isWrapped 20 = .ok (.iconst 0, 1) := by decide +kernel
theorem dX0_isWrapped_21 : decode cX0_isWrapped 21 = .ok (.iload_n 2, 1) := by decide +kernel
theorem dX0_isWrapped_22 : decode cX0_isWrapped 22 = .ok (.iastore, 1) := by decide +kernel
theorem dX0_isWrapped_23 : decode cX0_isWrapped 23 = .ok (.aload_n 0, 1) := by decide +kernel
theorem dX0_isWrapped_24 : decode cX0_isWrapped 24 = .ok (.getfield 84, 3) := by decide +kernel
theorem dX0_isWrapped_27 : decode cX0_isWrapped 27 = .ok (.iconst 0, 1) := by decide +kernel
theorem dX0_isWrapped_28 : decode cX0_isWrapped 28 = .ok (.aload_n 0, 1) := by decide +kernel
theorem dX0_isWrapped_29 : decode cX0_isWrapped 29 = .ok (.getfield 19, 3) := by decide +kernel
theorem dX0_isWrapped_32 : decode cX0_isWrapped 32 = .ok (.aload_n 0, 1) := by decide +kernel
theorem dX0_isWrapped_33 : decode cX0_isWrapped 33 = .ok (.getfield 37, 3) := by decide +kernel
theorem dX0_isWrapped_36 : decode cX0_isWrapped 36 = .ok (.iload_n 2, 1) := by decide +kernel
theorem dX0_isWrapped_37 : decode cX0_isWrapped 37 = .ok (.aaload, 1) := by decide +kernel
theorem dX0_isWrapped_38 : decode cX0_isWrapped 38 = .ok (.getfield 120, 3) := by decide +kernel
theorem dX0_isWrapped_41 : decode cX0_isWrapped 41 = .ok (.iaload, 1) := by decide +kernel
theorem dX0_isWrapped_42 : decode cX0_isWrapped 42 = .ok (.iastore, 1) := by decide +kernel
theorem dX0_isWrapped_43 : decode cX0_isWrapped 43 = .ok (.aload_n 0, 1) := by decide +kernel
theorem dX0_isWrapped_44 : decode cX0_isWrapped 44 = .ok (.getfield 87, 3) := by decide +kernel
theorem dX0_isWrapped_47 : decode cX0_isWrapped 47 = .ok (.iconst 0, 1) := by decide +kernel
theorem dX0_isWrapped_48 : decode cX0_isWrapped 48 = .ok (.aload_n 0, 1) := by decide +kernel
theorem dX0_isWrapped_49 : decode cX0_isWrapped 49 = .ok (.getfield 23, 3) := by decide +kernel
theorem dX0_isWrapped_52 : decode cX0_isWrapped 52 = .ok (.aload_n 0, 1) := by decide +kernel
theorem dX0_isWrapped_53 : decode cX0_isWrapped 53 = .ok (.getfield 37, 3) := by decide +kernel
theorem dX0_isWrapped_56 : decode cX0_isWrapped 56 = .ok (.iload_n 2, 1) := by decide +kernel
theorem dX0_isWrapped_57 : decode cX0_isWrapped 57 = .ok (.aaload, 1) := by decide +kernel
theorem dX0_isWrapped_58 : decode cX0_isWrapped 58 = .ok (.getfield 120, 3) := by decide +kernel
theorem dX0_isWrapped_61 : decode cX0_isWrapped 61 = .ok (.iaload, 1) := by decide +kernel
theorem dX0_isWrapped_62 : decode cX0_isWrapped 62 = .ok (.iastore, 1) := by decide +kernel
theorem dX0_isWrapped_63 : decode cX0_isWrapped 63 = .ok (.iconst 1, 1) := by decide +kernel
theorem dX0_isWrapped_64 : decode cX0_isWrapped 64 = .ok (.istore 4, 2) := by decide +kernel
theorem dX0_isWrapped_66 : decode cX0_isWrapped 66 = .ok (.aload_n 0, 1) := by decide +kernel
theorem dX0_isWrapped_67 : decode cX0_isWrapped 67 = .ok (.getfield 93, 3) := by decide +kernel
theorem dX0_isWrapped_70 : decode cX0_isWrapped 70 = .ok (.iconst 0, 1) := by decide +kernel
theorem dX0_isWrapped_71 : decode cX0_isWrapped 71 = .ok (.iconst 0, 1) := by decide +kernel
theorem dX0_isWrapped_72 : decode cX0_isWrapped 72 = .ok (.iastore, 1) := by decide +kernel
theorem dX0_isWrapped_73 : decode cX0_isWrapped 73 = .ok (.iconst 0, 1) := by decide +kernel
theorem dX0_isWrapped_74 : decode cX0_isWrapped 74 = .ok (.istore 5, 2) := by decide +kernel
theorem dX0_isWrapped_76 : decode cX0_isWrapped 76 = .ok (.iconst 0, 1) := by decide +kernel
theorem dX0_isWrapped_77 : decode cX0_isWrapped 77 = .ok (.istore 6, 2) := by decide +kernel
theorem dX0_isWrapped_79 : decode cX0_isWrapped 79 = .ok (.iload 6, 2) := by decide +kernel
theorem dX0_isWrapped_81 : decode cX0_isWrapped 81 = .ok (.iload 4, 2) := by decide +kernel
theorem dX0_isWrapped_83 : decode cX0_isWrapped 83 = .ok (.if_icmp .ge 119, 3) := by decide +kernel
theorem dX0_isWrapped_86 : decode cX0_isWrapped 86 = .ok (.aload_n 0, 1) := by decide +kernel
theorem dX0_isWrapped_87 : decode cX0_isWrapped 87 = .ok (.getfield 93, 3) := by decide +kernel
theorem dX0_isWrapped_90 : decode cX0_isWrapped 90 = .ok (.iload 6, 2) := by decide +kernel
theorem dX0_isWrapped_92 : decode cX0_isWrapped 92 = .ok (.iaload, 1) := by decide +kernel
theorem dX0_isWrapped_93 : decode cX0_isWrapped 93 = .ok (.istore 7, 2) := by decide +kernel
theorem dX0_isWrapped_95 : decode cX0_isWrapped 95 = .ok (.iload 5, 2) := by decide +kernel
theorem dX0_isWrapped_97 : decode cX0_isWrapped 97 = .ok (.iconst 1, 1) := by decide +kernel
theorem dX0_isWrapped_98 : decode cX0_isWrapped 98 = .ok (.aload_n 0, 1) := by decide +kernel
theorem dX0_isWrapped_99 : decode cX0_isWrapped 99 = .ok (.getfield 81, 3) := by decide +kernel
theorem dX0_isWrapped_102 : decode cX0_isWrapped 102 = .ok (.iload 7, 2) := by decide +kernel
theorem dX0_isWrapped_104 : decode cX0_isWrapped 104 = .ok (.iaload, 1) := by decide +kernel
theorem dX0_isWrapped_105 : decode cX0_isWrapped 105 = .ok (.ishl, 1) := by decide +kernel
theorem dX0_isWrapped_106 : decode cX0_isWrapped 106 = .ok (.ior, 1) := by decide +kernel
theorem dX0_isWrapped_107 : decode cX0_isWrapped 107 = .ok (.istore 5, 2) := by decide +kernel
theorem dX0_isWrapped_109 : decode cX0_isWrapped 109 = .ok (.iconst 0, 1) := by decide +kernel
theorem dX0_isWrapped_110 : decode cX0_isWrapped 110 = .ok (.istore 8, 2) := by decide +kernel
theorem dX0_isWrapped_112 : decode cX0_isWrapped 112 = .ok (.iload 8, 2) := by decide +kernel
theorem dX0_isWrapped_114 : decode cX0_isWrapped 114 = .ok (.iconst 4, 1) := by decide +kernel
theorem dX0_isWrapped_115 : decode cX0_isWrapped 115 = .ok (.if_icmp .ge 81, 3) := by decide +kernel
theorem dX0_isWrapped_118 : decode cX0_isWrapped 118 = .ok (.aload_n 0, 1) := by decide +kernel
theorem dX0_isWrapped_119 : decode cX0_isWrapped 119 = .ok (.getfield 90, 3) := by decide +kernel
theorem dX0_isWrapped_122 : decode cX0_isWrapped 122 = .ok (.iconst 4, 1) := by decide +kernel
theorem dX0_isWrapped_123 : decode cX0_isWrapped 123 = .ok (.iload 7, 2) := by decide +kernel
theorem dX0_isWrapped_125 : decode cX0_isWrapped 125 = .ok (.imul, 1) := by decide +kernel
theorem dX0_isWrapped_126 : decode cX0_isWrapped 126 = .ok (.iload 8, 2) := by decide +kernel
theorem dX0_isWrapped_128 : decode cX0_isWrapped 128 = .ok (.iadd, 1) := by decide +kernel
theorem dX0_isWrapped_129 : decode cX0_isWrapped 129 = .ok (.iaload, 1) := by decide +kernel
theorem dX0_isWrapped_130 : decode cX0_isWrapped 130 = .ok (.istore 9, 2) := by decide +kernel
theorem dX0_isWrapped_132 : decode cX0_isWrapped 132 = .ok (.iload 9, 2) := by decide +kernel
theorem dX0_isWrapped_134 : decode cX0_isWrapped 134 = .ok (.bipush (-9), 2) := by decide +kernel
theorem dX0_isWrapped_136 : decode cX0_isWrapped 136 = .ok (.if_icmp .eq 54, 3) := by decide +kernel
theorem dX0_isWrapped_139 : decode cX0_isWrapped 139 = .ok (.aload_n 0, 1) := by decide +kernel
theorem dX0_isWrapped_140 : decode cX0_isWrapped 140 = .ok (.getfield 81, 3) := by decide +kernel
theorem dX0_isWrapped_143 : decode cX0_isWrapped 143 = .ok (.iload 9, 2) := by decide +kernel
theorem dX0_isWrapped_145 : decode cX0_isWrapped 145 = .ok (.iaload, 1) := by decide +kernel
theorem dX0_isWrapped_146 : decode cX0_isWrapped 146 = .ok (.bipush (-9), 2) := by decide +kernel
theorem dX0_isWrapped_148 : decode cX0_isWrapped 148 = .ok (.if_icmp .ne 7, 3) := by decide +kernel
theorem dX0_isWrapped_151 : decode cX0_isWrapped 151 = .ok (.iconst 1, 1) := by decide +kernel
theorem dX0_isWrapped_152 : decode cX0_isWrapped 152 = .ok (.goto 4, 3) := by decide +kernel
theorem dX0_isWrapped_155 : decode cX0_isWrapped 155 = .ok (.iconst 0, 1) := by decide +kernel
theorem dX0_isWrapped_156 : decode cX0_isWrapped 156 = .ok (.istore 10, 2) := by decide +kernel
theorem dX0_isWrapped_158 : decode cX0_isWrapped 158 = .ok (.aload_n 0, 1) := by decide +kernel
theorem dX0_isWrapped_159 : decode cX0_isWrapped 159 = .ok (.iload 7, 2) := by decide +kernel
theorem dX0_isWrapped_161 : decode cX0_isWrapped 161 = .ok (.iload 8, 2) := by decide +kernel
theorem dX0_isWrapped_163 : decode cX0_isWrapped 163 = .ok (.iload 9, 2) := by decide +kernel
theorem dX0_isWrapped_165 : decode cX0_isWrapped 165 = .ok (.invokevirtual 296, 3) := by decide +kernel
theorem dX0_isWrapped_168 : decode cX0_isWrapped 168 = .ok (.ifCond .ne 5, 3) := by decide +kernel
theorem dX0_isWrapped_171 : decode cX0_isWrapped 171 = .ok (.iconst 0, 1) := by decide +kernel
theorem dX0_isWrapped_172 : decode cX0_isWrapped 172 = .ok (.ireturn, 1) := by decide +kernel
theorem dX0_isWrapped_173 : decode cX0_isWrapped 173 = .ok (.iload 10, 2) := by decide +kernel
theorem dX0_isWrapped_175 : decode cX0_isWrapped 175 = .ok (.ifCond .eq 15, 3) := by decide +kernel
theorem dX0_isWrapped_178 : decode cX0_isWrapped 178 = .ok (.aload_n 0, 1) := by decide +kernel
theorem dX0_isWrapped_179 : decode cX0_isWrapped 179 = .ok (.getfield 93, 3) := by decide +kernel
theorem dX0_isWrapped_182 : decode cX0_isWrapped 182 = .ok (.iload 4, 2) := by decide +kernel
theorem dX0_isWrapped_184 : decode cX0_isWrapped 184 = .ok (.iload 9, 2) := by decide +kernel
theorem dX0_isWrapped_186 : decode cX0_isWrapped 186 = .ok (.iastore, 1) := by decide +kernel
theorem dX0_isWrapped_187 : decode cX0_isWrapped 187 = .ok (.iinc 4 1, 3) := by decide +kernel
theorem dX0_isWrapped_190 : decode cX0_isWrapped 190 = .ok (.iinc 8 1, 3) := by decide +kernel
theorem dX0_isWrapped_193 : decode cX0_isWrapped 193 = .ok (.goto (-81), 3) := by decide +kernel
theorem dX0_isWrapped_196 : decode cX0_isWrapped 196 = .ok (.iinc 6 1, 3) := by decide +kernel
theorem dX0_isWrapped_199 : decode cX0_isWrapped 199 = .ok (.goto (-120), 3) := by decide +kernel
theorem dX0_isWrapped_202 : decode cX0_isWrapped 202 = .ok (.iload 5, 2) := by decide +kernel
theorem dX0_isWrapped_204 : decode cX0_isWrapped 204 = .ok (.invokestatic 299, 3) := by decide +kernel
theorem dX0_isWrapped_207 : decode cX0_isWrapped 207 = .ok (.iload_n 3, 1) := by decide +kernel
theorem dX0_isWrapped_208 : decode cX0_isWrapped 208 = .ok (.if_icmp .ne 7, 3) := by decide +kernel
theorem dX0_isWrapped_211 : decode cX0_isWrapped 211 = .ok (.iconst 1, 1) := by decide +kernel
theorem dX0_isWrapped_212 : decode cX0_isWrapped 212 = .ok (.goto 4, 3) := by decide +kernel
theorem dX0_isWrapped_215 : decode cX0_isWrapped 215 = .ok (.iconst 0, 1) := by decide +kernel
theorem dX0_isWrapped_216 : decode cX0_isWrapped 216 = .ok (.ireturn, 1) := by decide +kernel
theorem dX0_agrees_0 : decode cX0_agrees 0 = .ok (.iload_n 2, 1) := by decide +kernel
theorem dX0_agrees_1 : decode cX0_agrees 1 = .ok (.iconst 2, 1) := by decide +kernel
theorem dX0_agrees_2 : decode cX0_agrees 2 = .ok (.irem, 1) := by decide +kernel
theorem dX0_agrees_3 : decode cX0_agrees 3 = .ok (.ifCond .ne 12, 3) := by decide +kernel
theorem dX0_agrees_6 : decode cX0_agrees 6 = .ok (.aload_n 0, 1) := by decide +kernel
theorem dX0_agrees_7 : decode cX0_agrees 7 = .ok (.getfield 84, 3) := by decide +kernel
theorem dX0_agrees_10 : decode cX0_agrees 10 = .ok (.iload_n 1, 1) := by decide +kernel
theorem dX0_agrees_11 : decode cX0_agrees 11 = .ok (.iaload, 1) := by decide +kernel
theorem dX0_agrees_12 : decode cX0_agrees 12 = .ok (.goto 9, 3) := by decide +kernel
theorem dX0_agrees_15 : decode cX0_agrees 15 = .ok (.aload_n 0, 1) := by decide +kernel
theorem dX0_agrees_16 : decode cX0_agrees 16 = .ok (.getfield 87, 3) := by decide +kernel
theorem dX0_agrees_19 : decode cX0_agrees 19 = .ok (.iload_n 1, 1) := by decide +kernel
theorem dX0_agrees_20 : decode cX0_agrees 20 = .ok (.iaload, 1) := by decide +kernel
theorem dX0_agrees_21 : decode cX0_agrees 21 = .ok (.iload_n 2, 1) := by decide +kernel
theorem dX0_agrees_22 : decode cX0_agrees 22 = .ok (.iconst 1, 1) := by decide +kernel
theorem dX0_agrees_23 : decode cX0_agrees 23 = .ok (.ishr, 1) := by decide +kernel
theorem dX0_agrees_24 : decode cX0_agrees 24 = .ok (.ixor, 1) := by decide +kernel
theorem dX0_agrees_25 : decode cX0_agrees 25 = .ok (.istore 4, 2) := by decide +kernel
theorem dX0_agrees_27 : decode cX0_agrees 27 = .ok (.aload_n 0, 1) := by decide +kernel
theorem dX0_agrees_28 : decode cX0_agrees 28 = .ok (.getfield 37, 3) := by decide +kernel
theorem dX0_agrees_31 : decode cX0_agrees 31 = .ok (.aload_n 0, 1) := by decide +kernel
theorem dX0_agrees_32 : decode cX0_agrees 32 = .ok (.getfield 81, 3) := by decide +kernel
theorem dX0_agrees_35 : decode cX0_agrees 35 = .ok (.iload_n 1, 1) := by decide +kernel
theorem dX0_agrees_36 : decode cX0_agrees 36 = .ok (.iaload, 1) := by decide +kernel
theorem dX0_agrees_37 : decode cX0_agrees 37 = .ok (.aaload, 1) := by decide +kernel
theorem dX0_agrees_38 : decode cX0_agrees 38 = .ok (.astore 5, 2) := by decide +kernel
theorem dX0_agrees_40 : decode cX0_agrees 40 = .ok (.aload 5, 2) := by decide +kernel
theorem dX0_agrees_42 : decode cX0_agrees 42 = .ok (.getfield 166, 3) := by decide +kernel
theorem dX0_agrees_45 : decode cX0_agrees 45 = .ok (.iload 4, 2) := by decide +kernel
theorem dX0_agrees_47 : decode cX0_agrees 47 = .ok (.iaload, 1) := by decide +kernel
theorem dX0_agrees_48 : decode cX0_agrees 48 = .ok (.iload_n 2, 1) := by decide +kernel
theorem dX0_agrees_49 : decode cX0_agrees 49 = .ok (.iconst 1, 1) := by decide +kernel
theorem dX0_agrees_50 : decode cX0_agrees 50 = .ok (.ishr, 1) := by decide +kernel
theorem dX0_agrees_51 : decode cX0_agrees 51 = .ok (.ixor, 1) := by decide +kernel
theorem dX0_agrees_52 : decode cX0_agrees 52 = .ok (.istore 6, 2) := by decide +kernel
theorem dX0_agrees_54 : decode cX0_agrees 54 = .ok (.iload_n 2, 1) := by decide +kernel
theorem dX0_agrees_55 : decode cX0_agrees 55 = .ok (.iconst 2, 1) := by decide +kernel
theorem dX0_agrees_56 : decode cX0_agrees 56 = .ok (.irem, 1) := by decide +kernel
theorem dX0_agrees_57 : decode cX0_agrees 57 = .ok (.ifCond .ne 8, 3) := by decide +kernel
theorem dX0_agrees_60 : decode cX0_agrees 60 = .ok (.iload 6, 2) := by decide +kernel
theorem dX0_agrees_62 : decode cX0_agrees 62 = .ok (.goto 9, 3) := by decide +kernel
theorem dX0_agrees_65 : decode cX0_agrees 65 = .ok (.aload_n 0, 1) := by decide +kernel
theorem dX0_agrees_66 : decode cX0_agrees 66 = .ok (.getfield 84, 3) := by decide +kernel
theorem dX0_agrees_69 : decode cX0_agrees 69 = .ok (.iload_n 1, 1) := by decide +kernel
theorem dX0_agrees_70 : decode cX0_agrees 70 = .ok (.iaload, 1) := by decide +kernel
theorem dX0_agrees_71 : decode cX0_agrees 71 = .ok (.istore 7, 2) := by decide +kernel
theorem dX0_agrees_73 : decode cX0_agrees 73 = .ok (.iload_n 2, 1) := by decide +kernel
theorem dX0_agrees_74 : decode cX0_agrees 74 = .ok (.iconst 2, 1) := by decide +kernel
theorem dX0_agrees_75 : decode cX0_agrees 75 = .ok (.irem, 1) := by decide +kernel
theorem dX0_agrees_76 : decode cX0_agrees 76 = .ok (.iconst 1, 1) := by decide +kernel
theorem dX0_agrees_77 : decode cX0_agrees 77 = .ok (.if_icmp .ne 8, 3) := by decide +kernel
theorem dX0_agrees_80 : decode cX0_agrees 80 = .ok (.iload 6, 2) := by decide +kernel
theorem dX0_agrees_82 : decode cX0_agrees 82 = .ok (.goto 9, 3) := by decide +kernel
theorem dX0_agrees_85 : decode cX0_agrees 85 = .ok (.aload_n 0, 1) := by decide +kernel
theorem dX0_agrees_86 : decode cX0_agrees 86 = .ok (.getfield 87, 3) := by decide +kernel
theorem dX0_agrees_89 : decode cX0_agrees 89 = .ok (.iload_n 1, 1) := by decide +kernel
theorem dX0_agrees_90 : decode cX0_agrees 90 = .ok (.iaload, 1) := by decide +kernel
theorem dX0_agrees_91 : decode cX0_agrees 91 = .ok (.istore 8, 2) := by decide +kernel
theorem dX0_agrees_93 : decode cX0_agrees 93 = .ok (.aload_n 0, 1) := by decide +kernel
theorem dX0_agrees_94 : decode cX0_agrees 94 = .ok (.getfield 81, 3) := by decide +kernel
theorem dX0_agrees_97 : decode cX0_agrees 97 = .ok (.iload_n 3, 1) := by decide +kernel
theorem dX0_agrees_98 : decode cX0_agrees 98 = .ok (.iaload, 1) := by decide +kernel
theorem dX0_agrees_99 : decode cX0_agrees 99 = .ok (.bipush (-9), 2) := by decide +kernel
theorem dX0_agrees_101 : decode cX0_agrees 101 = .ok (.if_icmp .ne 33, 3) := by decide +kernel
theorem dX0_agrees_104 : decode cX0_agrees 104 = .ok (.aload_n 0, 1) := by decide +kernel
theorem dX0_agrees_105 : decode cX0_agrees 105 = .ok (.getfield 81, 3) := by decide +kernel
theorem dX0_agrees_108 : decode cX0_agrees 108 = .ok (.iload_n 3, 1) := by decide +kernel
theorem dX0_agrees_109 : decode cX0_agrees 109 = .ok (.aload 5, 2) := by decide +kernel
theorem dX0_agrees_111 : decode cX0_agrees 111 = .ok (.getfield 129, 3) := by decide +kernel
theorem dX0_agrees_114 : decode cX0_agrees 114 = .ok (.iload 4, 2) := by decide +kernel
theorem dX0_agrees_116 : decode cX0_agrees 116 = .ok (.iaload, 1) := by decide +kernel
theorem dX0_agrees_117 : decode cX0_agrees 117 = .ok (.iastore, 1) := by decide +kernel
theorem dX0_agrees_118 : decode cX0_agrees 118 = .ok (.aload_n 0, 1) := by decide +kernel
theorem dX0_agrees_119 : decode cX0_agrees 119 = .ok (.getfield 84, 3) := by decide +kernel
theorem dX0_agrees_122 : decode cX0_agrees 122 = .ok (.iload_n 3, 1) := by decide +kernel
theorem dX0_agrees_123 : decode cX0_agrees 123 = .ok (.iload 7, 2) := by decide +kernel
theorem dX0_agrees_125 : decode cX0_agrees 125 = .ok (.iastore, 1) := by decide +kernel
theorem dX0_agrees_126 : decode cX0_agrees 126 = .ok (.aload_n 0, 1) := by decide +kernel
theorem dX0_agrees_127 : decode cX0_agrees 127 = .ok (.getfield 87, 3) := by decide +kernel
theorem dX0_agrees_130 : decode cX0_agrees 130 = .ok (.iload_n 3, 1) := by decide +kernel
theorem dX0_agrees_131 : decode cX0_agrees 131 = .ok (.iload 8, 2) := by decide +kernel
theorem dX0_agrees_133 : decode cX0_agrees 133 = .ok (.iastore, 1) := by decide +kernel
theorem dX0_agrees_134 : decode cX0_agrees 134 = .ok (.aload_n 0, 1) := by decide +kernel
theorem dX0_agrees_135 : decode cX0_agrees 135 = .ok (.getfield 81, 3) := by decide +kernel
theorem dX0_agrees_138 : decode cX0_agrees 138 = .ok (.iload_n 3, 1) := by decide +kernel
theorem dX0_agrees_139 : decode cX0_agrees 139 = .ok (.iaload, 1) := by decide +kernel
theorem dX0_agrees_140 : decode cX0_agrees 140 = .ok (.aload 5, 2) := by decide +kernel
theorem dX0_agrees_142 : decode cX0_agrees 142 = .ok (.getfield 129, 3) := by decide +kernel
theorem dX0_agrees_145 : decode cX0_agrees 145 = .ok (.iload 4, 2) := by decide +kernel
theorem dX0_agrees_147 : decode cX0_agrees 147 = .ok (.iaload, 1) := by decide +kernel
theorem dX0_agrees_148 : decode cX0_agrees 148 = .ok (.if_icmp .ne 29, 3) := by decide +kernel
theorem dX0_agrees_151 : decode cX0_agrees 151 = .ok (.aload_n 0, 1) := by decide +kernel
theorem dX0_agrees_152 : decode cX0_agrees 152 = .ok (.getfield 84, 3) := by decide +kernel
theorem dX0_agrees_155 : decode cX0_agrees 155 = .ok (.iload_n 3, 1) := by decide +kernel
theorem dX0_agrees_156 : decode cX0_agrees 156 = .ok (.iaload, 1) := by decide +kernel
theorem dX0_agrees_157 : decode cX0_agrees 157 = .ok (.iload 7, 2) := by decide +kernel
theorem dX0_agrees_159 : decode cX0_agrees 159 = .ok (.if_icmp .ne 18, 3) := by decide +kernel
theorem dX0_agrees_162 : decode cX0_agrees 162 = .ok (.aload_n 0, 1) := by decide +kernel
theorem dX0_agrees_163 : decode cX0_agrees 163 = .ok (.getfield 87, 3) := by decide +kernel
theorem dX0_agrees_166 : decode cX0_agrees 166 = .ok (.iload_n 3, 1) := by decide +kernel
theorem dX0_agrees_167 : decode cX0_agrees 167 = .ok (.iaload, 1) := by decide +kernel
theorem dX0_agrees_168 : decode cX0_agrees 168 = .ok (.iload 8, 2) := by decide +kernel
theorem dX0_agrees_170 : decode cX0_agrees 170 = .ok (.if_icmp .ne 7, 3) := by decide +kernel
theorem dX0_agrees_173 : decode cX0_agrees 173 = .ok (.iconst 1, 1) := by decide +kernel
theorem dX0_agrees_174 : decode cX0_agrees 174 = .ok (.goto 4, 3) := by decide +kernel
theorem dX0_agrees_177 : decode cX0_agrees 177 = .ok (.iconst 0, 1) := by decide +kernel
theorem dX0_agrees_178 : decode cX0_agrees 178 = .ok (.ireturn, 1) := by decide +kernel
end
section
set_option maxRecDepth 100000
theorem dX4_init_0 : decode cX4_init 0 = .ok (.aload_n 0, 1) := by decide +kernel
theorem dX4_init_1 : decode cX4_init 1 = .ok (.invokespecial 1, 3) := by decide +kernel
theorem dX4_init_4 : decode cX4_init 4 = .ok (.aload_n 0, 1) := by decide +kernel
theorem dX4_init_5 : decode cX4_init 5 = .ok (.iconst 5, 1) := by decide +kernel
theorem dX4_init_6 : decode cX4_init 6 = .ok (.newarray .int, 2) := by decide +kernel
theorem dX4_init_8 : decode cX4_init 8 = .ok (.putfield 7, 3) := by decide +kernel
theorem dX4_init_11 : decode cX4_init 11 = .ok (.aload_n 0, 1) := by decide +kernel
theorem dX4_init_12 : decode cX4_init 12 = .ok (.iconst 5, 1) := by decide +kernel
theorem dX4_init_13 : decode cX4_init 13 = .ok (.newarray .int, 2) := by decide +kernel
theorem dX4_init_15 : decode cX4_init 15 = .ok (.putfield 13, 3) := by decide +kernel
theorem dX4_init_18 : decode cX4_init 18 = .ok (.aload_n 0, 1) := by decide +kernel
theorem dX4_init_19 : decode cX4_init 19 = .ok (.iconst 5, 1) := by decide +kernel
theorem dX4_init_20 : decode cX4_init 20 = .ok (.newarray .int, 2) := by decide +kernel
theorem dX4_init_22 : decode cX4_init 22 = .ok (.putfield 16, 3) := by decide +kernel
theorem dX4_init_25 : decode cX4_init 25 = .ok (.aload_n 0, 1) := by decide +kernel
theorem dX4_init_26 : decode cX4_init 26 = .ok (.bipush 30, 2) := by decide +kernel
theorem dX4_init_28 : decode cX4_init 28 = .ok (.newarray .int, 2) := by decide +kernel
theorem dX4_init_30 : decode cX4_init 30 = .ok (.putfield 19, 3) := by decide +kernel
theorem dX4_init_33 : decode cX4_init 33 = .ok (.aload_n 0, 1) := by decide +kernel
theorem dX4_init_34 : decode cX4_init 34 = .ok (.bipush 30, 2) := by decide +kernel
theorem dX4_init_36 : decode cX4_init 36 = .ok (.newarray .int, 2) := by decide +kernel
theorem dX4_init_38 : decode cX4_init 38 = .ok (.putfield 22, 3) := by decide +kernel
theorem dX4_init_41 : decode cX4_init 41 = .ok (.aload_n 0, 1) := by decide +kernel
theorem dX4_init_42 : decode cX4_init 42 = .ok (.bipush 30, 2) := by decide +kernel
theorem dX4_init_44 : decode cX4_init 44 = .ok (.newarray .boolean, 2) := by decide +kernel
theorem dX4_init_46 : decode cX4_init 46 = .ok (.putfield 25, 3) := by decide +kernel
theorem dX4_init_49 : decode cX4_init 49 = .ok (.aload_n 0, 1) := by decide +kernel
theorem dX4_init_50 : decode cX4_init 50 = .ok (.bipush 30, 2) := by decide +kernel
theorem dX4_init_52 : decode cX4_init 52 = .ok (.newarray .int, 2) := by decide +kernel
theorem dX4_init_54 : decode cX4_init 54 = .ok (.putfield 29, 3) := by decide +kernel
theorem dX4_init_57 : decode cX4_init 57 = .ok (.aload_n 0, 1) := by decide +kernel
theorem dX4_init_58 : decode cX4_init 58 = .ok (.bipush 30, 2) := by decide +kernel
theorem dX4_init_60 : decode cX4_init 60 = .ok (.newarray .int, 2) := by decide +kernel
theorem dX4_init_62 : decode cX4_init 62 = .ok (.putfield 32, 3) := by decide +kernel
theorem dX4_init_65 : decode cX4_init 65 = .ok (.aload_n 0, 1) := by decide +kernel
theorem dX4_init_66 : decode cX4_init 66 = .ok (.bipush 30, 2) := by decide +kernel
theorem dX4_init_68 : decode cX4_init 68 = .ok (.newarray .int, 2) := by decide +kernel
theorem dX4_init_70 : decode cX4_init 70 = .ok (.putfield 35, 3) := by decide +kernel
theorem dX4_init_73 : decode cX4_init 73 = .ok (.aload_n 0, 1) := by decide +kernel
theorem dX4_init_74 : decode cX4_init 74 = .ok (.bipush 30, 2) := by decide +kernel
theorem dX4_init_76 : decode cX4_init 76 = .ok (.newarray .int, 2) := by decide +kernel
theorem dX4_init_78 : decode cX4_init 78 = .ok (.putfield 38, 3) := by decide +kernel
theorem dX4_init_81 : decode cX4_init 81 = .ok (.aload_n 0, 1) := by decide +kernel
theorem dX4_init_82 : decode cX4_init 82 = .ok (.bipush 30, 2) := by decide +kernel
theorem dX4_init_84 : decode cX4_init 84 = .ok (.newarray .int, 2) := by decide +kernel
theorem dX4_init_86 : decode cX4_init 86 = .ok (.putfield 41, 3) := by decide +kernel
theorem dX4_init_89 : decode cX4_init 89 = .ok (.aload_n 0, 1) := by decide +kernel
theorem dX4_init_90 : decode cX4_init 90 = .ok (.bipush 30, 2) := by decide +kernel
theorem dX4_init_92 : decode cX4_init 92 = .ok (.newarray .int, 2) := by decide +kernel
theorem dX4_init_94 : decode cX4_init 94 = .ok (.putfield 44, 3) := by decide +kernel
theorem dX4_init_97 : decode cX4_init 97 = .ok (.aload_n 0, 1) := by decide +kernel
theorem dX4_init_98 : decode cX4_init 98 = .ok (.bipush 30, 2) := by decide +kernel
theorem dX4_init_100 : decode cX4_init 100 = .ok (.newarray .boolean, 2) := by decide +kernel
theorem dX4_init_102 : decode cX4_init 102 = .ok (.putfield 47, 3) := by decide +kernel
theorem dX4_init_105 : decode cX4_init 105 = .ok (.aload_n 0, 1) := by decide +kernel
theorem dX4_init_106 : decode cX4_init 106 = .ok (.bipush 30, 2) := by decide +kernel
theorem dX4_init_108 : decode cX4_init 108 = .ok (.newarray .int, 2) := by decide +kernel
theorem dX4_init_110 : decode cX4_init 110 = .ok (.putfield 50, 3) := by decide +kernel
theorem dX4_init_113 : decode cX4_init 113 = .ok (.aload_n 0, 1) := by decide +kernel
theorem dX4_init_114 : decode cX4_init 114 = .ok (.bipush 30, 2) := by decide +kernel
theorem dX4_init_116 : decode cX4_init 116 = .ok (.newarray .int, 2) := by decide +kernel
theorem dX4_init_118 : decode cX4_init 118 = .ok (.putfield 53, 3) := by decide +kernel
theorem dX4_init_121 : decode cX4_init 121 = .ok (.aload_n 0, 1) := by decide +kernel
theorem dX4_init_122 : decode cX4_init 122 = .ok (.bipush 30, 2) := by decide +kernel
theorem dX4_init_124 : decode cX4_init 124 = .ok (.newarray .int, 2) := by decide +kernel
theorem dX4_init_126 : decode cX4_init 126 = .ok (.putfield 56, 3) := by decide +kernel
theorem dX4_init_129 : decode cX4_init 129 = .ok (.aload_n 0, 1) := by decide +kernel
theorem dX4_init_130 : decode cX4_init 130 = .ok (.bipush 30, 2) := by decide +kernel
theorem dX4_init_132 : decode cX4_init 132 = .ok (.newarray .int, 2) := by decide +kernel
theorem dX4_init_134 : decode cX4_init 134 = .ok (.putfield 59, 3) := by decide +kernel
theorem dX4_init_137 : decode cX4_init 137 = .ok (.aload_n 0, 1) := by decide +kernel
theorem dX4_init_138 : decode cX4_init 138 = .ok (.bipush 30, 2) := by decide +kernel
theorem dX4_init_140 : decode cX4_init 140 = .ok (.newarray .int, 2) := by decide +kernel
theorem dX4_init_142 : decode cX4_init 142 = .ok (.putfield 62, 3) := by decide +kernel
theorem dX4_init_145 : decode cX4_init 145 = .ok (.aload_n 0, 1) := by decide +kernel
theorem dX4_init_146 : decode cX4_init 146 = .ok (.bipush 30, 2) := by decide +kernel
theorem dX4_init_148 : decode cX4_init 148 = .ok (.newarray .int, 2) := by decide +kernel
theorem dX4_init_150 : decode cX4_init 150 = .ok (.putfield 65, 3) := by decide +kernel
theorem dX4_init_153 : decode cX4_init 153 = .ok (.aload_n 0, 1) := by decide +kernel
theorem dX4_init_154 : decode cX4_init 154 = .ok (.bipush 64, 2) := by decide +kernel
theorem dX4_init_156 : decode cX4_init 156 = .ok (.newarray .int, 2) := by decide +kernel
theorem dX4_init_158 : decode cX4_init 158 = .ok (.putfield 68, 3) := by decide +kernel
theorem dX4_init_161 : decode cX4_init 161 = .ok (.aload_n 0, 1) := by decide +kernel
theorem dX4_init_162 : decode cX4_init 162 = .ok (.sipush 1920, 3) := by decide +kernel
theorem dX4_init_165 : decode cX4_init 165 = .ok (.newarray .int, 2) := by decide +kernel
theorem dX4_init_167 : decode cX4_init 167 = .ok (.putfield 71, 3) := by decide +kernel
theorem dX4_init_170 : decode cX4_init 170 = .ok (.aload_n 0, 1) := by decide +kernel
theorem dX4_init_171 : decode cX4_init 171 = .ok (.sipush 180, 3) := by decide +kernel
theorem dX4_init_174 : decode cX4_init 174 = .ok (.newarray .int, 2) := by decide +kernel
theorem dX4_init_176 : decode cX4_init 176 = .ok (.putfield 74, 3) := by decide +kernel
theorem dX4_init_179 : decode cX4_init 179 = .ok (.aload_n 0, 1) := by decide +kernel
theorem dX4_init_180 : decode cX4_init 180 = .ok (.sipush 180, 3) := by decide +kernel
theorem dX4_init_183 : decode cX4_init 183 = .ok (.newarray .int, 2) := by decide +kernel
theorem dX4_init_185 : decode cX4_init 185 = .ok (.putfield 77, 3) := by decide +kernel
theorem dX4_init_188 : decode cX4_init 188 = .ok (.aload_n 0, 1) := by decide +kernel
theorem dX4_init_189 : decode cX4_init 189 = .ok (.sipush 900, 3) := by decide +kernel
theorem dX4_init_192 : decode cX4_init 192 = .ok (.newarray .long, 2) := by decide +kernel
theorem dX4_init_194 : decode cX4_init 194 = .ok (.putfield 80, 3) := by decide +kernel
theorem dX4_init_197 : decode cX4_init 197 = .ok (.aload_n 0, 1) := by decide +kernel
theorem dX4_init_198 : decode cX4_init 198 = .ok (.bipush 30, 2) := by decide +kernel
theorem dX4_init_200 : decode cX4_init 200 = .ok (.newarray .int, 2) := by decide +kernel
theorem dX4_init_202 : decode cX4_init 202 = .ok (.putfield 84, 3) := by decide +kernel
theorem dX4_init_205 : decode cX4_init 205 = .ok (.aload_n 0, 1) := by decide +kernel
theorem dX4_init_206 : decode cX4_init 206 = .ok (.bipush 30, 2) := by decide +kernel
theorem dX4_init_208 : decode cX4_init 208 = .ok (.newarray .int, 2) := by decide +kernel
theorem dX4_init_210 : decode cX4_init 210 = .ok (.putfield 87, 3) := by decide +kernel
theorem dX4_init_213 : decode cX4_init 213 = .ok (.aload_n 0, 1) := by decide +kernel
theorem dX4_init_214 : decode cX4_init 214 = .ok (.bipush 30, 2) := by decide +kernel
theorem dX4_init_216 : decode cX4_init 216 = .ok (.newarray .int, 2) := by decide +kernel
theorem dX4_init_218 : decode cX4_init 218 = .ok (.putfield 90, 3) := by decide +kernel
theorem dX4_init_221 : decode cX4_init 221 = .ok (.aload_n 0, 1) := by decide +kernel
theorem dX4_init_222 : decode cX4_init 222 = .ok (.bipush 30, 2) := by decide +kernel
theorem dX4_init_224 : decode cX4_init 224 = .ok (.newarray .int, 2) := by decide +kernel
theorem dX4_init_226 : decode cX4_init 226 = .ok (.putfield 93, 3) := by decide +kernel
theorem dX4_init_229 : decode cX4_init 229 = .ok (.aload_n 0, 1) := by decide +kernel
theorem dX4_init_230 : decode cX4_init 230 = .ok (.bipush 30, 2) := by decide +kernel
theorem dX4_init_232 : decode cX4_init 232 = .ok (.newarray .int, 2) := by decide +kernel
theorem dX4_init_234 : decode cX4_init 234 = .ok (.putfield 96, 3) := by decide +kernel
theorem dX4_init_237 : decode cX4_init 237 = .ok (.aload_n 0, 1) := by decide +kernel
theorem dX4_init_238 : decode cX4_init 238 = .ok (.bipush 30, 2) := by decide +kernel
theorem dX4_init_240 : decode cX4_init 240 = .ok (.newarray .int, 2) := by decide +kernel
theorem dX4_init_242 : decode cX4_init 242 = .ok (.putfield 99, 3) := by decide +kernel
theorem dX4_init_245 : decode cX4_init 245 = .ok (.aload_n 0, 1) := by decide +kernel
theorem dX4_init_246 : decode cX4_init 246 = .ok (.bipush 30, 2) := by decide +kernel
theorem dX4_init_248 : decode cX4_init 248 = .ok (.newarray .int, 2) := by decide +kernel
theorem dX4_init_250 : decode cX4_init 250 = .ok (.putfield 102, 3) := by decide +kernel
theorem dX4_init_253 : decode cX4_init 253 = .ok (.aload_n 0, 1) := by decide +kernel
theorem dX4_init_254 : decode cX4_init 254 = .ok (.bipush 30, 2) := by decide +kernel
theorem dX4_init_256 : decode cX4_init 256 = .ok (.newarray .int, 2) := by decide +kernel
theorem dX4_init_258 : decode cX4_init 258 = .ok (.putfield 105, 3) := by decide +kernel
theorem dX4_init_261 : decode cX4_init 261 = .ok (.aload_n 0, 1) := by decide +kernel
theorem dX4_init_262 : decode cX4_init 262 = .ok (.invokevirtual 108, 3) := by decide +kernel
theorem dX4_init_265 : decode cX4_init 265 = .ok (.return_, 1) := by decide +kernel
theorem dX4_anew_0 : decode cX4_anew 0 = .ok (.aload_n 0, 1) := by decide +kernel
theorem dX4_anew_1 : decode cX4_anew 1 = .ok (.iconst 0, 1) := by decide +kernel
theorem dX4_anew_2 : decode cX4_anew 2 = .ok (.putfield 111, 3) := by decide +kernel
theorem dX4_anew_5 : decode cX4_anew 5 = .ok (.iconst 0, 1) := by decide +kernel
theorem dX4_anew_6 : decode cX4_anew 6 = .ok (.istore_n 1, 1) := by decide +kernel
theorem dX4_anew_7 : decode cX4_anew 7 = .ok (.iload_n 1, 1) := by decide +kernel
theorem dX4_anew_8 : decode cX4_anew 8 = .ok (.bipush 30, 2) := by decide +kernel
theorem dX4_anew_10 : decode cX4_anew 10 = .ok (.if_icmp .ge 23, 3) := by decide +kernel
theorem dX4_anew_13 : decode cX4_anew 13 = .ok (.aload_n 0, 1) := by decide +kernel
theorem dX4_anew_14 : decode cX4_anew 14 = .ok (.getfield 25, 3) := by decide +kernel
theorem dX4_anew_17 : decode cX4_anew 17 = .ok (.iload_n 1, 1) := by decide +kernel
theorem dX4_anew_18 : decode cX4_anew 18 = .ok (.iconst 0, 1) := by decide +kernel
theorem dX4_anew_19 : decode cX4_anew 19 = .ok (.bastore, 1) := by decide +kernel
theorem dX4_anew_20 : decode cX4_anew 20 = .ok (.aload_n 0, 1) := by decide +kernel
theorem dX4_anew_21 : decode cX4_anew 21 = .ok (.getfield 47, 3) := by decide +kernel
theorem dX4_anew_24 : decode cX4_anew 24 = .ok (.iload_n 1, 1) := by decide +kernel
theorem dX4_anew_25 : decode cX4_anew 25 = .ok (.iconst 0, 1) := by decide +kernel
theorem dX4_anew_26 : decode cX4_anew 26 = .ok (.bastore, 1) := by decide +kernel
theorem dX4_anew_27 : decode cX4_anew 27 = .ok (.iinc 1 1, 3) := by decide +kernel
theorem dX4_anew_30 : decode cX4_anew 30 = .ok (.goto (-23), 3) := by decide +kernel
theorem dX4_anew_33 : decode cX4_anew 33 = .ok (.aload_n 0, 1) := by decide +kernel
theorem dX4_anew_34 : decode cX4_anew 34 = .ok (.iconst 0, 1) := by decide +kernel
theorem dX4_anew_35 : decode cX4_anew 35 = .ok (.putfield 115, 3) := by decide +kernel
theorem dX4_anew_38 : decode cX4_anew 38 = .ok (.iconst 0, 1) := by decide +kernel
theorem dX4_anew_39 : decode cX4_anew 39 = .ok (.istore_n 1, 1) := by decide +kernel
theorem dX4_anew_40 : decode cX4_anew 40 = .ok (.iload_n 1, 1) := by decide +kernel
theorem dX4_anew_41 : decode cX4_anew 41 = .ok (.aload_n 0, 1) := by decide +kernel
theorem dX4_anew_42 : decode cX4_anew 42 = .ok (.getfield 118, 3) := by decide +kernel
theorem dX4_anew_45 : decode cX4_anew 45 = .ok (.if_icmp .ge 64, 3) := by decide +kernel
theorem dX4_anew_48 : decode cX4_anew 48 = .ok (.iconst 0, 1) := by decide +kernel
theorem dX4_anew_49 : decode cX4_anew 49 = .ok (.istore_n 2, 1) := by decide +kernel
theorem dX4_anew_50 : decode cX4_anew 50 = .ok (.iload_n 2, 1) := by decide +kernel
theorem dX4_anew_51 : decode cX4_anew 51 = .ok (.bipush 6, 2) := by decide +kernel
theorem dX4_anew_53 : decode cX4_anew 53 = .ok (.if_icmp .ge 50, 3) := by decide +kernel
theorem dX4_anew_56 : decode cX4_anew 56 = .ok (.aload_n 0, 1) := by decide +kernel
theorem dX4_anew_57 : decode cX4_anew 57 = .ok (.iload_n 1, 1) := by decide +kernel
theorem dX4_anew_58 : decode cX4_anew 58 = .ok (.iload_n 2, 1) := by decide +kernel
theorem dX4_anew_59 : decode cX4_anew 59 = .ok (.invokevirtual 121, 3) := by decide +kernel
theorem dX4_anew_62 : decode cX4_anew 62 = .ok (.bipush (-9), 2) := by decide +kernel
theorem dX4_anew_64 : decode cX4_anew 64 = .ok (.if_icmp .ne 33, 3) := by decide +kernel
theorem dX4_anew_67 : decode cX4_anew 67 = .ok (.aload_n 0, 1) := by decide +kernel
theorem dX4_anew_68 : decode cX4_anew 68 = .ok (.getfield 19, 3) := by decide +kernel
theorem dX4_anew_71 : decode cX4_anew 71 = .ok (.aload_n 0, 1) := by decide +kernel
theorem dX4_anew_72 : decode cX4_anew 72 = .ok (.getfield 115, 3) := by decide +kernel
theorem dX4_anew_75 : decode cX4_anew 75 = .ok (.iload_n 1, 1) := by decide +kernel
theorem dX4_anew_76 : decode cX4_anew 76 = .ok (.iastore, 1) := by decide +kernel
theorem dX4_anew_77 : decode cX4_anew 77 = .ok (.aload_n 0, 1) := by decide +kernel
theorem dX4_anew_78 : decode cX4_anew 78 = .ok (.getfield 22, 3) := by decide +kernel
theorem dX4_anew_81 : decode cX4_anew 81 = .ok (.aload_n 0, 1) := by decide +kernel
theorem dX4_anew_82 : decode cX4_anew 82 = .ok (.getfield 115, 3) := by decide +kernel
theorem dX4_anew_85 : decode cX4_anew 85 = .ok (.iload_n 2, 1) := by decide +kernel
theorem dX4_anew_86 : decode cX4_anew 86 = .ok (.iastore, 1) := by decide +kernel
theorem dX4_anew_87 : decode cX4_anew 87 = .ok (.aload_n 0, 1) := by decide +kernel
theorem dX4_anew_88 : decode cX4_anew 88 = .ok (.dup, 1) := by decide +kernel
theorem dX4_anew_89 : decode cX4_anew 89 = .ok (.getfield 115, 3) := by decide +kernel
theorem dX4_anew_92 : decode cX4_anew 92 = .ok (.iconst 1, 1) := by decide +kernel
theorem dX4_anew_93 : decode cX4_anew 93 = .ok (.iadd, 1) := by decide +kernel
theorem dX4_anew_94 : decode cX4_anew 94 = .ok (.putfield 115, 3) := by decide +kernel
theorem dX4_anew_97 : decode cX4_anew 97 = .ok (.iinc 2 1, 3) := by decide +kernel
theorem dX4_anew_100 : decode cX4_anew 100 = .ok (.goto (-50), 3) := by decide +kernel
theorem dX4_anew_103 : decode cX4_anew 103 = .ok (.iinc 1 1, 3) := by decide +kernel
theorem dX4_anew_106 : decode cX4_anew 106 = .ok (.goto (-66), 3) := by decide +kernel
theorem dX4_anew_109 : decode cX4_anew 109 = .ok (.iconst 0, 1) := by decide +kernel
theorem dX4_anew_110 : decode cX4_anew 110 = .ok (.istore_n 1, 1) := by decide +kernel
theorem dX4_anew_111 : decode cX4_anew 111 = .ok (.iload_n 1, 1) := by decide +kernel
theorem dX4_anew_112 : decode cX4_anew 112 = .ok (.aload_n 0, 1) := by decide +kernel
theorem dX4_anew_113 : decode cX4_anew 113 = .ok (.getfield 115, 3) := by decide +kernel
theorem dX4_anew_116 : decode cX4_anew 116 = .ok (.if_icmp .ge 71, 3) := by decide +kernel
theorem dX4_anew_119 : decode cX4_anew 119 = .ok (.iconst 0, 1) := by decide +kernel
theorem dX4_anew_120 : decode cX4_anew 120 = .ok (.istore_n 2, 1) := by decide +kernel
theorem dX4_anew_121 : decode cX4_anew 121 = .ok (.iload_n 2, 1) := by decide +kernel
theorem dX4_anew_122 : decode cX4_anew 122 = .ok (.bipush 6, 2) := by decide +kernel
theorem dX4_anew_124 : decode cX4_anew 124 = .ok (.if_icmp .ge 57, 3) := by decide +kernel
theorem dX4_anew_127 : decode cX4_anew 127 = .ok (.iload_n 2, 1) := by decide +kernel
theorem dX4_anew_128 : decode cX4_anew 128 = .ok (.iconst 2, 1) := by decide +kernel
theorem dX4_anew_129 : decode cX4_anew 129 = .ok (.idiv, 1) := by decide +kernel
theorem dX4_anew_130 : decode cX4_anew 130 = .ok (.aload_n 0, 1) := by decide +kernel
theorem dX4_anew_131 : decode cX4_anew 131 = .ok (.getfield 22, 3) := by decide +kernel
theorem dX4_anew_134 : decode cX4_anew 134 = .ok (.iload_n 1, 1) := by decide +kernel
theorem dX4_anew_135 : decode cX4_anew 135 = .ok (.iaload, 1) := by decide +kernel
theorem dX4_anew_136 : decode cX4_anew 136 = .ok (.iconst 2, 1) := by decide +kernel
theorem dX4_anew_137 : decode cX4_anew 137 = .ok (.idiv, 1) := by decide +kernel
theorem dX4_anew_138 : decode cX4_anew 138 = .ok (.if_icmp .eq 37, 3) := by decide +kernel
theorem dX4_anew_141 : decode cX4_anew 141 = .ok (.aload_n 0, 1) := by decide +kernel
theorem dX4_anew_142 : decode cX4_anew 142 = .ok (.getfield 74, 3) := by decide +kernel
theorem dX4_anew_145 : decode cX4_anew 145 = .ok (.bipush 6, 2) := by decide +kernel
theorem dX4_anew_147 : decode cX4_anew 147 = .ok (.iload_n 1, 1) := by decide +kernel
theorem dX4_anew_148 : decode cX4_anew 148 = .ok (.imul, 1) := by decide +kernel
theorem dX4_anew_149 : decode cX4_anew 149 = .ok (.iload_n 2, 1) := by decide +kernel
theorem dX4_anew_150 : decode cX4_anew 150 = .ok (.iadd, 1) := by decide +kernel
theorem dX4_anew_151 : decode cX4_anew 151 = .ok (.aload_n 0, 1) := by decide +kernel
theorem dX4_anew_152 : decode cX4_anew 152 = .ok (.iload_n 1, 1) := by decide +kernel
theorem dX4_anew_153 : decode cX4_anew 153 = .ok (.iload_n 2, 1) := by decide +kernel
theorem dX4_anew_154 : decode cX4_anew 154 = .ok (.invokevirtual 125, 3) := by decide +kernel
theorem dX4_anew_157 : decode cX4_anew 157 = .ok (.iastore, 1) := by decide +kernel
theorem dX4_anew_158 : decode cX4_anew 158 = .ok (.aload_n 0, 1) := by decide +kernel
theorem dX4_anew_159 : decode cX4_anew 159 = .ok (.getfield 77, 3) := by decide +kernel
theorem dX4_anew_162 : decode cX4_anew 162 = .ok (.bipush 6, 2) := by decide +kernel
theorem dX4_anew_164 : decode cX4_anew 164 = .ok (.iload_n 1, 1) := by decide +kernel
theorem dX4_anew_165 : decode cX4_anew 165 = .ok (.imul, 1) := by decide +kernel
theorem dX4_anew_166 : decode cX4_anew 166 = .ok (.iload_n 2, 1) := by decide +kernel
theorem dX4_anew_167 : decode cX4_anew 167 = .ok (.iadd, 1) := by decide +kernel
theorem dX4_anew_168 : decode cX4_anew 168 = .ok (.aload_n 0, 1) := by decide +kernel
theorem dX4_anew_169 : decode cX4_anew 169 = .ok (.iload_n 1, 1) := by decide +kernel
theorem dX4_anew_170 : decode cX4_anew 170 = .ok (.iload_n 2, 1) := by decide +kernel
theorem dX4_anew_171 : decode cX4_anew 171 = .ok (.invokevirtual 128, 3) := by decide +kernel
theorem dX4_anew_174 : decode cX4_anew 174 = .ok (.iastore, 1) := by decide +kernel
theorem dX4_anew_175 : decode cX4_anew 175 = .ok (.iinc 2 1, 3) := by decide +kernel
theorem dX4_anew_178 : decode cX4_anew 178 = .ok (.goto (-57), 3) := by decide +kernel
theorem dX4_anew_181 : decode cX4_anew 181 = .ok (.iinc 1 1, 3) := by decide +kernel
theorem dX4_anew_184 : decode cX4_anew 184 = .ok (.goto (-73), 3) := by decide +kernel
theorem dX4_anew_187 : decode cX4_anew 187 = .ok (.aload_n 0, 1) := by decide +kernel
theorem dX4_anew_188 : decode cX4_anew 188 = .ok (.iconst 0, 1) := by decide +kernel
theorem dX4_anew_189 : decode cX4_anew 189 = .ok (.putfield 131, 3) := by decide +kernel
theorem dX4_anew_192 : decode cX4_anew 192 = .ok (.aload_n 0, 1) := by decide +kernel
theorem dX4_anew_193 : decode cX4_anew 193 = .ok (.iconst 0, 1) := by decide +kernel
theorem dX4_anew_194 : decode cX4_anew 194 = .ok (.putfield 134, 3) := by decide +kernel
theorem dX4_anew_197 : decode cX4_anew 197 = .ok (.aload_n 0, 1) := by decide +kernel
theorem dX4_anew_198 : decode cX4_anew 198 = .ok (.bipush (-9), 2) := by decide +kernel
theorem dX4_anew_200 : decode cX4_anew 200 = .ok (.putfield 137, 3) := by decide +kernel
theorem dX4_anew_203 : decode cX4_anew 203 = .ok (.aload_n 0, 1) := by decide +kernel
theorem dX4_anew_204 : decode cX4_anew 204 = .ok (.iconst 0, 1) := by decide +kernel
theorem dX4_anew_205 : decode cX4_anew 205 = .ok (.putfield 140, 3) := by decide +kernel
theorem dX4_anew_208 : decode cX4_anew 208 = .ok (.aload_n 0, 1) := by decide +kernel
theorem dX4_anew_209 : decode cX4_anew 209 = .ok (.iconst 0, 1) := by decide +kernel
theorem dX4_anew_210 : decode cX4_anew 210 = .ok (.putfield 144, 3) := by decide +kernel
theorem dX4_anew_213 : decode cX4_anew 213 = .ok (.aload_n 0, 1) := by decide +kernel
theorem dX4_anew_214 : decode cX4_anew 214 = .ok (.iconst 0, 1) := by decide +kernel
theorem dX4_anew_215 : decode cX4_anew 215 = .ok (.putfield 147, 3) := by decide +kernel
theorem dX4_anew_218 : decode cX4_anew 218 = .ok (.aload_n 0, 1) := by decide +kernel
theorem dX4_anew_219 : decode cX4_anew 219 = .ok (.getfield 115, 3) := by decide +kernel
theorem dX4_anew_222 : decode cX4_anew 222 = .ok (.ifCond .le 74, 3) := by decide +kernel
theorem dX4_anew_225 : decode cX4_anew 225 = .ok (.aload_n 0, 1) := by decide +kernel
theorem dX4_anew_226 : decode cX4_anew 226 = .ok (.getfield 41, 3) := by decide +kernel
theorem dX4_anew_229 : decode cX4_anew 229 = .ok (.iconst 0, 1) := by decide +kernel
theorem dX4_anew_230 : decode cX4_anew 230 = .ok (.iconst 0, 1) := by decide +kernel
theorem dX4_anew_231 : decode cX4_anew 231 = .ok (.iastore, 1) := by decide +kernel
theorem dX4_anew_232 : decode cX4_anew 232 = .ok (.aload_n 0, 1) := by decide +kernel
theorem dX4_anew_233 : decode cX4_anew 233 = .ok (.getfield 44, 3) := by decide +kernel
theorem dX4_anew_236 : decode cX4_anew 236 = .ok (.iconst 0, 1) := by decide +kernel
theorem dX4_anew_237 : decode cX4_anew 237 = .ok (.bipush (-9), 2) := by decide +kernel
theorem dX4_anew_239 : decode cX4_anew 239 = .ok (.iastore, 1) := by decide +kernel
theorem dX4_anew_240 : decode cX4_anew 240 = .ok (.aload_n 0, 1) := by decide +kernel
theorem dX4_anew_241 : decode cX4_anew 241 = .ok (.getfield 47, 3) := by decide +kernel
theorem dX4_anew_244 : decode cX4_anew 244 = .ok (.iconst 0, 1) := by decide +kernel
theorem dX4_anew_245 : decode cX4_anew 245 = .ok (.iconst 1, 1) := by decide +kernel
theorem dX4_anew_246 : decode cX4_anew 246 = .ok (.bastore, 1) := by decide +kernel
theorem dX4_anew_247 : decode cX4_anew 247 = .ok (.aload_n 0, 1) := by decide +kernel
theorem dX4_anew_248 : decode cX4_anew 248 = .ok (.getfield 50, 3) := by decide +kernel
theorem dX4_anew_251 : decode cX4_anew 251 = .ok (.iconst 0, 1) := by decide +kernel
theorem dX4_anew_252 : decode cX4_anew 252 = .ok (.iconst 0, 1) := by decide +kernel
theorem dX4_anew_253 : decode cX4_anew 253 = .ok (.iastore, 1) := by decide +kernel
theorem dX4_anew_254 : decode cX4_anew 254 = .ok (.aload_n 0, 1) := by decide +kernel
theorem dX4_anew_255 : decode cX4_anew 255 = .ok (.getfield 53, 3) := by decide +kernel
theorem dX4_anew_258 : decode cX4_anew 258 = .ok (.iconst 0, 1) := by decide +kernel
theorem dX4_anew_259 : decode cX4_anew 259 = .ok (.iconst 0, 1) := by decide +kernel
theorem dX4_anew_260 : decode cX4_anew 260 = .ok (.iastore, 1) := by decide +kernel
theorem dX4_anew_261 : decode cX4_anew 261 = .ok (.aload_n 0, 1) := by decide +kernel
theorem dX4_anew_262 : decode cX4_anew 262 = .ok (.getfield 56, 3) := by decide +kernel
theorem dX4_anew_265 : decode cX4_anew 265 = .ok (.iconst 0, 1) := by decide +kernel
theorem dX4_anew_266 : decode cX4_anew 266 = .ok (.aload_n 0, 1) := by decide +kernel
theorem dX4_anew_267 : decode cX4_anew 267 = .ok (.getfield 22, 3) := by decide +kernel
theorem dX4_anew_270 : decode cX4_anew 270 = .ok (.iconst 0, 1) := by decide +kernel
theorem dX4_anew_271 : decode cX4_anew 271 = .ok (.iaload, 1) := by decide +kernel
theorem dX4_anew_272 : decode cX4_anew 272 = .ok (.invokestatic 150, 3) := by decide +kernel
theorem dX4_anew_275 : decode cX4_anew 275 = .ok (.iastore, 1) := by decide +kernel
theorem dX4_anew_276 : decode cX4_anew 276 = .ok (.aload_n 0, 1) := by decide +kernel
theorem dX4_anew_277 : decode cX4_anew 277 = .ok (.getfield 59, 3) := by decide +kernel
theorem dX4_anew_280 : decode cX4_anew 280 = .ok (.iconst 0, 1) := by decide +kernel
theorem dX4_anew_281 : decode cX4_anew 281 = .ok (.aload_n 0, 1) := by decide +kernel
theorem dX4_anew_282 : decode cX4_anew 282 = .ok (.getfield 22, 3) := by decide +kernel
theorem dX4_anew_285 : decode cX4_anew 285 = .ok (.iconst 0, 1) := by decide +kernel
theorem dX4_anew_286 : decode cX4_anew 286 = .ok (.iaload, 1) := by decide +kernel
theorem dX4_anew_287 : decode cX4_anew 287 = .ok (.invokestatic 154, 3) := by decide +kernel
theorem dX4_anew_290 : decode cX4_anew 290 = .ok (.iastore, 1) := by decide +kernel
theorem dX4_anew_291 : decode cX4_anew 291 = .ok (.aload_n 0, 1) := by decide +kernel
theorem dX4_anew_292 : decode cX4_anew 292 = .ok (.iconst 1, 1) := by decide +kernel
theorem dX4_anew_293 : decode cX4_anew 293 = .ok (.putfield 144, 3) := by decide +kernel
theorem dX4_anew_296 : decode cX4_anew 296 = .ok (.return_, 1) := by decide +kernel
theorem dX4_cubeBeside_0 : decode cX4_cubeBeside 0 = .ok (.aload_n 0, 1) := by decide +kernel
theorem dX4_cubeBeside_1 : decode cX4_cubeBeside 1 = .ok (.aload_n 0, 1) := by decide +kernel
theorem dX4_cubeBeside_2 : decode cX4_cubeBeside 2 = .ok (.getfield 7, 3) := by decide +kernel
theorem dX4_cubeBeside_5 : decode cX4_cubeBeside 5 = .ok (.iload_n 1, 1) := by decide +kernel
theorem dX4_cubeBeside_6 : decode cX4_cubeBeside 6 = .ok (.iaload, 1) := by decide +kernel
theorem dX4_cubeBeside_7 : decode cX4_cubeBeside 7 = .ok (.iload_n 2, 1) := by decide +kernel
theorem dX4_cubeBeside_8 : decode cX4_cubeBeside 8 = .ok (.invokestatic 157, 3) := by decide +kernel
theorem dX4_cubeBeside_11 : decode cX4_cubeBeside 11 = .ok (.iadd, 1) := by decide +kernel
theorem dX4_cubeBeside_12 : decode cX4_cubeBeside 12 = .ok (.aload_n 0, 1) := by decide +kernel
theorem dX4_cubeBeside_13 : decode cX4_cubeBeside 13 = .ok (.getfield 13, 3) := by decide +kernel
theorem dX4_cubeBeside_16 : decode cX4_cubeBeside 16 = .ok (.iload_n 1, 1) := by decide +kernel
theorem dX4_cubeBeside_17 : decode cX4_cubeBeside 17 = .ok (.iaload, 1) := by decide +kernel
theorem dX4_cubeBeside_18 : decode cX4_cubeBeside 18 = .ok (.iload_n 2, 1) := by decide +kernel
theorem dX4_cubeBeside_19 : decode cX4_cubeBeside 19 = .ok (.invokestatic 160, 3) := by decide +kernel
theorem dX4_cubeBeside_22 : decode cX4_cubeBeside 22 = .ok (.iadd, 1) := by decide +kernel
theorem dX4_cubeBeside_23 : decode cX4_cubeBeside 23 = .ok (.aload_n 0, 1) := by decide +kernel
theorem dX4_cubeBeside_24 : decode cX4_cubeBeside 24 = .ok (.getfield 16, 3) := by decide +kernel
theorem dX4_cubeBeside_27 : decode cX4_cubeBeside 27 = .ok (.iload_n 1, 1) := by decide +kernel
theorem dX4_cubeBeside_28 : decode cX4_cubeBeside 28 = .ok (.iaload, 1) := by decide +kernel
theorem dX4_cubeBeside_29 : decode cX4_cubeBeside 29 = .ok (.iload_n 2, 1) := by decide +kernel
theorem dX4_cubeBeside_30 : decode cX4_cubeBeside 30 = .ok (.invokestatic 163, 3) := by decide +kernel
theorem dX4_cubeBeside_33 : decode cX4_cubeBeside 33 = .ok (.iadd, 1) := by decide +kernel
theorem dX4_cubeBeside_34 : decode cX4_cubeBeside 34 = .ok (.invokevirtual 166, 3) := by decide +kernel
theorem dX4_cubeBeside_37 : decode cX4_cubeBeside 37 = .ok (.ireturn, 1) := by decide +kernel
theorem dX4_stepX_0 : decode cX4_stepX 0 = .ok (.iload_n 0, 1) := by decide +kernel
theorem dX4_stepX_1 : decode cX4_stepX 1 = .ok (.ifCond .ne 7, 3) := by decide +kernel
theorem dX4_stepX_4 : decode cX4_stepX 4 = .ok (.iconst 1, 1) := by decide +kernel
theorem dX4_stepX_5 : decode cX4_stepX 5 = .ok (.goto 13, 3) := by decide +kernel
theorem dX4_stepX_8 : decode cX4_stepX 8 = .ok (.iload_n 0, 1) := by decide +kernel
theorem dX4_stepX_9 : decode cX4_stepX 9 = .ok (.iconst 1, 1) := by decide +kernel
theorem dX4_stepX_10 : decode cX4_stepX 10 = .ok (.if_icmp .ne 7, 3) := by decide +kernel
theorem dX4_stepX_13 : decode cX4_stepX 13 = .ok (.iconst (-1), 1) := by decide +kernel
theorem dX4_stepX_14 : decode cX4_stepX 14 = .ok (.goto 4, 3) := by decide +kernel
theorem dX4_stepX_17 : decode cX4_stepX 17 = .ok (.iconst 0, 1) := by decide +kernel
theorem dX4_stepX_18 : decode cX4_stepX 18 = .ok (.ireturn, 1) := by decide +kernel
theorem dX4_stepY_0 : decode cX4_stepY 0 = .ok (.iload_n 0, 1) := by decide +kernel
theorem dX4_stepY_1 : decode cX4_stepY 1 = .ok (.iconst 2, 1) := by decide +kernel
theorem dX4_stepY_2 : decode cX4_stepY 2 = .ok (.if_icmp .ne 7, 3) := by decide +kernel
theorem dX4_stepY_5 : decode cX4_stepY 5 = .ok (.iconst 1, 1) := by decide +kernel
theorem dX4_stepY_6 : decode cX4_stepY 6 = .ok (.goto 13, 3) := by decide +kernel
theorem dX4_stepY_9 : decode cX4_stepY 9 = .ok (.iload_n 0, 1) := by decide +kernel
theorem dX4_stepY_10 : decode cX4_stepY 10 = .ok (.iconst 3, 1) := by decide +kernel
theorem dX4_stepY_11 : decode cX4_stepY 11 = .ok (.if_icmp .ne 7, 3) := by decide +kernel
theorem dX4_stepY_14 : decode cX4_stepY 14 = .ok (.iconst (-1), 1) := by decide +kernel
theorem dX4_stepY_15 : decode cX4_stepY 15 = .ok (.goto 4, 3) := by decide +kernel
theorem dX4_stepY_18 : decode cX4_stepY 18 = .ok (.iconst 0, 1) := by decide +kernel
theorem dX4_stepY_19 : decode cX4_stepY 19 = .ok (.ireturn, 1) := by decide +kernel
theorem dX4_stepZ_0 : decode cX4_stepZ 0 = .ok (.iload_n 0, 1) := by decide +kernel
theorem dX4_stepZ_1 : decode cX4_stepZ 1 = .ok (.iconst 4, 1) := by decide +kernel
theorem dX4_stepZ_2 : decode cX4_stepZ 2 = .ok (.if_icmp .ne 7, 3) := by decide +kernel
theorem dX4_stepZ_5 : decode cX4_stepZ 5 = .ok (.iconst 1, 1) := by decide +kernel
theorem dX4_stepZ_6 : decode cX4_stepZ 6 = .ok (.goto 13, 3) := by decide +kernel
theorem dX4_stepZ_9 : decode cX4_stepZ 9 = .ok (.iload_n 0, 1) := by decide +kernel
theorem dX4_stepZ_10 : decode cX4_stepZ 10 = .ok (.iconst 5, 1) := by decide +kernel
theorem dX4_stepZ_11 : decode cX4_stepZ 11 = .ok (.if_icmp .ne 7, 3) := by decide +kernel
theorem dX4_stepZ_14 : decode cX4_stepZ 14 = .ok (.iconst (-1), 1) := by decide +kernel
theorem dX4_stepZ_15 : decode cX4_stepZ 15 = .ok (.goto 4, 3) := by decide +kernel
theorem dX4_stepZ_18 : decode cX4_stepZ 18 = .ok (.iconst 0, 1) := by decide +kernel
theorem dX4_stepZ_19 : decode cX4_stepZ 19 = .ok (.ireturn, 1) := by decide +kernel
theorem dX4_cubeAt_0 : decode cX4_cubeAt 0 = .ok (.iconst 0, 1) := by decide +kernel
theorem dX4_cubeAt_1 : decode cX4_cubeAt 1 = .ok (.istore 4, 2) := by decide +kernel
theorem dX4_cubeAt_3 : decode cX4_cubeAt 3 = .ok (.iload 4, 2) := by decide +kernel
theorem dX4_cubeAt_5 : decode cX4_cubeAt 5 = .ok (.aload_n 0, 1) := by decide +kernel
theorem dX4_cubeAt_6 : decode cX4_cubeAt 6 = .ok (.getfield 118, 3) := by decide +kernel
theorem dX4_cubeAt_9 : decode cX4_cubeAt 9 = .ok (.if_icmp .ge 45, 3) := by decide +kernel
theorem dX4_cubeAt_12 : decode cX4_cubeAt 12 = .ok (.aload_n 0, 1) := by decide +kernel
theorem dX4_cubeAt_13 : decode cX4_cubeAt 13 = .ok (.getfield 7, 3) := by decide +kernel
theorem dX4_cubeAt_16 : decode cX4_cubeAt 16 = .ok (.iload 4, 2) := by decide +kernel
theorem dX4_cubeAt_18 : decode cX4_cubeAt 18 = .ok (.iaload, 1) := by decide +kernel
theorem dX4_cubeAt_19 : decode cX4_cubeAt 19 = .ok (.iload_n 1, 1) := by decide +kernel
theorem dX4_cubeAt_20 : decode cX4_cubeAt 20 = .ok (.if_icmp .ne 28, 3) := by decide +kernel
theorem dX4_cubeAt_23 : decode cX4_cubeAt 23 = .ok (.aload_n 0, 1) := by decide +kernel
theorem dX4_cubeAt_24 : decode cX4_cubeAt 24 = .ok (.getfield 13, 3) := by decide +kernel
theorem dX4_cubeAt_27 : decode cX4_cubeAt 27 = .ok (.iload 4, 2) := by decide +kernel
theorem dX4_cubeAt_29 : decode cX4_cubeAt 29 = .ok (.iaload, 1) := by decide +kernel
theorem dX4_cubeAt_30 : decode cX4_cubeAt 30 = .ok (.iload_n 2, 1) := by decide +kernel
theorem dX4_cubeAt_31 : decode cX4_cubeAt 31 = .ok (.if_icmp .ne 17, 3) := by decide +kernel
theorem dX4_cubeAt_34 : decode cX4_cubeAt 34 = .ok (.aload_n 0, 1) := by decide +kernel
theorem dX4_cubeAt_35 : decode cX4_cubeAt 35 = .ok (.getfield 16, 3) := by decide +kernel
theorem dX4_cubeAt_38 : decode cX4_cubeAt 38 = .ok (.iload 4, 2) := by decide +kernel
theorem dX4_cubeAt_40 : decode cX4_cubeAt 40 = .ok (.iaload, 1) := by decide +kernel
theorem dX4_cubeAt_41 : decode cX4_cubeAt 41 = .ok (.iload_n 3, 1) := by decide +kernel
theorem dX4_cubeAt_42 : decode cX4_cubeAt 42 = .ok (.if_icmp .ne 6, 3) := by decide +kernel
theorem dX4_cubeAt_45 : decode cX4_cubeAt 45 = .ok (.iload 4, 2) := by decide +kernel
theorem dX4_cubeAt_47 : decode cX4_cubeAt 47 = .ok (.ireturn, 1) := by decide +kernel
theorem dX4_cubeAt_48 : decode cX4_cubeAt 48 = .ok (.iinc 4 1, 3) := by decide +kernel
theorem dX4_cubeAt_51 : decode cX4_cubeAt 51 = .ok (.goto (-48), 3) := by decide +kernel
theorem dX4_cubeAt_54 : decode cX4_cubeAt 54 = .ok (.bipush (-9), 2) := by decide +kernel
theorem dX4_cubeAt_56 : decode cX4_cubeAt 56 = .ok (.ireturn, 1) := by decide +kernel
theorem dX4_found_0 : decode cX4_found 0 = .ok (.aload_n 0, 1) := by decide +kernel
theorem dX4_found_1 : decode cX4_found 1 = .ok (.getfield 19, 3) := by decide +kernel
theorem dX4_found_4 : decode cX4_found 4 = .ok (.iload_n 1, 1) := by decide +kernel
theorem dX4_found_5 : decode cX4_found 5 = .ok (.iaload, 1) := by decide +kernel
theorem dX4_found_6 : decode cX4_found 6 = .ok (.istore_n 3, 1) := by decide +kernel
theorem dX4_found_7 : decode cX4_found 7 = .ok (.aload_n 0, 1) := by decide +kernel
theorem dX4_found_8 : decode cX4_found 8 = .ok (.getfield 22, 3) := by decide +kernel
theorem dX4_found_11 : decode cX4_found 11 = .ok (.iload_n 1, 1) := by decide +kernel
theorem dX4_found_12 : decode cX4_found 12 = .ok (.iaload, 1) := by decide +kernel
theorem dX4_found_13 : decode cX4_found 13 = .ok (.istore 4, 2) := by decide +kernel
theorem dX4_found_15 : decode cX4_found 15 = .ok (.aload_n 0, 1) := by decide +kernel
theorem dX4_found_16 : decode cX4_found 16 = .ok (.iload_n 1, 1) := by decide +kernel
theorem dX4_found_17 : decode cX4_found 17 = .ok (.iload_n 2, 1) := by decide +kernel
theorem dX4_found_18 : decode cX4_found 18 = .ok (.invokevirtual 170, 3) := by decide +kernel
theorem dX4_found_21 : decode cX4_found 21 = .ok (.istore 5, 2) := by decide +kernel
theorem dX4_found_23 : decode cX4_found 23 = .ok (.iload 5, 2) := by decide +kernel
theorem dX4_found_25 : decode cX4_found 25 = .ok (.iconst 2, 1) := by decide +kernel
theorem dX4_found_26 : decode cX4_found 26 = .ok (.if_icmp .ne 66, 3) := by decide +kernel
theorem dX4_found_29 : decode cX4_found 29 = .ok (.aload_n 0, 1) := by decide +kernel
theorem dX4_found_30 : decode cX4_found 30 = .ok (.aload_n 0, 1) := by decide +kernel
theorem dX4_found_31 : decode cX4_found 31 = .ok (.aload_n 0, 1) := by decide +kernel
theorem dX4_found_32 : decode cX4_found 32 = .ok (.getfield 7, 3) := by decide +kernel
theorem dX4_found_35 : decode cX4_found 35 = .ok (.iload_n 3, 1) := by decide +kernel
theorem dX4_found_36 : decode cX4_found 36 = .ok (.iaload, 1) := by decide +kernel
theorem dX4_found_37 : decode cX4_found 37 = .ok (.iload_n 2, 1) := by decide +kernel
theorem dX4_found_38 : decode cX4_found 38 = .ok (.invokestatic 157, 3) := by decide +kernel
theorem dX4_found_41 : decode cX4_found 41 = .ok (.iadd, 1) := by decide +kernel
theorem dX4_found_42 : decode cX4_found 42 = .ok (.iload 4, 2) := by decide +kernel
theorem dX4_found_44 : decode cX4_found 44 = .ok (.invokestatic 157, 3) := by decide +kernel
theorem dX4_found_47 : decode cX4_found 47 = .ok (.iadd, 1) := by decide +kernel
theorem dX4_found_48 : decode cX4_found 48 = .ok (.aload_n 0, 1) := by decide +kernel
theorem dX4_found_49 : decode cX4_found 49 = .ok (.getfield 13, 3) := by decide +kernel
theorem dX4_found_52 : decode cX4_found 52 = .ok (.iload_n 3, 1) := by decide +kernel
theorem dX4_found_53 : decode cX4_found 53 = .ok (.iaload, 1) := by decide +kernel
theorem dX4_found_54 : decode cX4_found 54 = .ok (.iload_n 2, 1) := by decide +kernel
theorem dX4_found_55 : decode cX4_found 55 = .ok (.invokestatic 160, 3) := by decide +kernel
theorem dX4_found_58 : decode cX4_found 58 = .ok (.iadd, 1) := by decide +kernel
theorem dX4_found_59 : decode cX4_found 59 = .ok (.iload 4, 2) := by decide +kernel
theorem dX4_found_61 : decode cX4_found 61 = .ok (.invokestatic 160, 3) := by decide +kernel
theorem dX4_found_64 : decode cX4_found 64 = .ok (.iadd, 1) := by decide +kernel
theorem dX4_found_65 : decode cX4_found 65 = .ok (.aload_n 0, 1) := by decide +kernel
theorem dX4_found_66 : decode cX4_found 66 = .ok (.getfield 16, 3) := by decide +kernel
theorem dX4_found_69 : decode cX4_found 69 = .ok (.iload_n 3, 1) := by decide +kernel
theorem dX4_found_70 : decode cX4_found 70 = .ok (.iaload, 1) := by decide +kernel
theorem dX4_found_71 : decode cX4_found 71 = .ok (.iload_n 2, 1) := by decide +kernel
theorem dX4_found_72 : decode cX4_found 72 = .ok (.invokestatic 163, 3) := by decide +kernel
theorem dX4_found_75 : decode cX4_found 75 = .ok (.iadd, 1) := by decide +kernel
theorem dX4_found_76 : decode cX4_found 76 = .ok (.iload 4, 2) := by decide +kernel
theorem dX4_found_78 : decode cX4_found 78 = .ok (.invokestatic 163, 3) := by decide +kernel
theorem dX4_found_81 : decode cX4_found 81 = .ok (.iadd, 1) := by decide +kernel
theorem dX4_found_82 : decode cX4_found 82 = .ok (.invokevirtual 166, 3) := by decide +kernel
theorem dX4_found_85 : decode cX4_found 85 = .ok (.iload_n 2, 1) := by decide +kernel
theorem dX4_found_86 : decode cX4_found 86 = .ok (.iconst 1, 1) := by decide +kernel
theorem dX4_found_87 : decode cX4_found 87 = .ok (.ixor, 1) := by decide +kernel
theorem dX4_found_88 : decode cX4_found 88 = .ok (.invokevirtual 173, 3) := by decide +kernel
theorem dX4_found_91 : decode cX4_found 91 = .ok (.ireturn, 1) := by decide +kernel
theorem dX4_found_92 : decode cX4_found 92 = .ok (.iload 5, 2) := by decide +kernel
theorem dX4_found_94 : decode cX4_found 94 = .ok (.iconst 1, 1) := by decide +kernel
theorem dX4_found_95 : decode cX4_found 95 = .ok (.if_icmp .ne 18, 3) := by decide +kernel
theorem dX4_found_98 : decode cX4_found 98 = .ok (.aload_n 0, 1) := by decide +kernel
theorem dX4_found_99 : decode cX4_found 99 = .ok (.aload_n 0, 1) := by decide +kernel
theorem dX4_found_100 : decode cX4_found 100 = .ok (.iload_n 3, 1) := by decide +kernel
theorem dX4_found_101 : decode cX4_found 101 = .ok (.iload_n 2, 1) := by decide +kernel
theorem dX4_found_102 : decode cX4_found 102 = .ok (.invokevirtual 121, 3) := by decide +kernel
theorem dX4_found_105 : decode cX4_found 105 = .ok (.iload 4, 2) := by decide +kernel
theorem dX4_found_107 : decode cX4_found 107 = .ok (.invokevirtual 173, 3) := by decide +kernel
theorem dX4_found_110 : decode cX4_found 110 = .ok (.goto 9, 3) := by decide +kernel
theorem dX4_found_113 : decode cX4_found 113 = .ok (.aload_n 0, 1) := by decide +kernel
theorem dX4_found_114 : decode cX4_found 114 = .ok (.iload_n 3, 1) := by decide +kernel
theorem dX4_found_115 : decode cX4_found 115 = .ok (.iload_n 2, 1) := by decide +kernel
theorem dX4_found_116 : decode cX4_found 116 = .ok (.invokevirtual 173, 3) := by decide +kernel
theorem dX4_found_119 : decode cX4_found 119 = .ok (.ireturn, 1) := by decide +kernel
theorem dX4_edge_0 : decode cX4_edge 0 = .ok (.aload_n 0, 1) := by decide +kernel
theorem dX4_edge_1 : decode cX4_edge 1 = .ok (.getfield 19, 3) := by decide +kernel
theorem dX4_edge_4 : decode cX4_edge 4 = .ok (.iload_n 1, 1) := by decide +kernel
theorem dX4_edge_5 : decode cX4_edge 5 = .ok (.iaload, 1) := by decide +kernel
theorem dX4_edge_6 : decode cX4_edge 6 = .ok (.istore_n 3, 1) := by decide +kernel
theorem dX4_edge_7 : decode cX4_edge 7 = .ok (.aload_n 0, 1) := by decide +kernel
theorem dX4_edge_8 : decode cX4_edge 8 = .ok (.getfield 22, 3) := by decide +kernel
theorem dX4_edge_11 : decode cX4_edge 11 = .ok (.iload_n 1, 1) := by decide +kernel
theorem dX4_edge_12 : decode cX4_edge 12 = .ok (.iaload, 1) := by decide +kernel
theorem dX4_edge_13 : decode cX4_edge 13 = .ok (.istore 4, 2) := by decide +kernel
theorem dX4_edge_15 : decode cX4_edge 15 = .ok (.aload_n 0, 1) := by decide +kernel
theorem dX4_edge_16 : decode cX4_edge 16 = .ok (.aload_n 0, 1) := by decide +kernel
theorem dX4_edge_17 : decode cX4_edge 17 = .ok (.getfield 7, 3) := by decide +kernel
theorem dX4_edge_20 : decode cX4_edge 20 = .ok (.iload_n 3, 1) := by decide +kernel
theorem dX4_edge_21 : decode cX4_edge 21 = .ok (.iaload, 1) := by decide +kernel
theorem dX4_edge_22 : decode cX4_edge 22 = .ok (.iload_n 2, 1) := by decide +kernel
theorem dX4_edge_23 : decode cX4_edge 23 = .ok (.invokestatic 157, 3) := by decide +kernel
theorem dX4_edge_26 : decode cX4_edge 26 = .ok (.iadd, 1) := by decide +kernel
theorem dX4_edge_27 : decode cX4_edge 27 = .ok (.iload 4, 2) := by decide +kernel
theorem dX4_edge_29 : decode cX4_edge 29 = .ok (.invokestatic 157, 3) := by decide +kernel
theorem dX4_edge_32 : decode cX4_edge 32 = .ok (.iadd, 1) := by decide +kernel
theorem dX4_edge_33 : decode cX4_edge 33 = .ok (.aload_n 0, 1) := by decide +kernel
theorem dX4_edge_34 : decode cX4_edge 34 = .ok (.getfield 13, 3) := by decide +kernel
theorem dX4_edge_37 : decode cX4_edge 37 = .ok (.iload_n 3, 1) := by decide +kernel
theorem dX4_edge_38 : decode cX4_edge 38 = .ok (.iaload, 1) := by decide +kernel
theorem dX4_edge_39 : decode cX4_edge 39 = .ok (.iload_n 2, 1) := by decide +kernel
theorem dX4_edge_40 : decode cX4_edge 40 = .ok (.invokestatic 160, 3) := by decide +kernel
theorem dX4_edge_43 : decode cX4_edge 43 = .ok (.iadd, 1) := by decide +kernel
theorem dX4_edge_44 : decode cX4_edge 44 = .ok (.iload 4, 2) := by decide +kernel
theorem dX4_edge_46 : decode cX4_edge 46 = .ok (.invokestatic 160, 3) := by decide +kernel
theorem dX4_edge_49 : decode cX4_edge 49 = .ok (.iadd, 1) := by decide +kernel
theorem dX4_edge_50 : decode cX4_edge 50 = .ok (.aload_n 0, 1) := by decide +kernel
theorem dX4_edge_51 : decode cX4_edge 51 = .ok (.getfield 16, 3) := by decide +kernel
theorem dX4_edge_54 : decode cX4_edge 54 = .ok (.iload_n 3, 1) := by decide +kernel
theorem dX4_edge_55 : decode cX4_edge 55 = .ok (.iaload, 1) := by decide +kernel
theorem dX4_edge_56 : decode cX4_edge 56 = .ok (.iload_n 2, 1) := by decide +kernel
theorem dX4_edge_57 : decode cX4_edge 57 = .ok (.invokestatic 163, 3) := by decide +kernel
theorem dX4_edge_60 : decode cX4_edge 60 = .ok (.iadd, 1) := by decide +kernel
theorem dX4_edge_61 : decode cX4_edge 61 = .ok (.iload 4, 2) := by decide +kernel
theorem dX4_edge_63 : decode cX4_edge 63 = .ok (.invokestatic 163, 3) := by decide +kernel
theorem dX4_edge_66 : decode cX4_edge 66 = .ok (.iadd, 1) := by decide +kernel
theorem dX4_edge_67 : decode cX4_edge 67 = .ok (.invokevirtual 166, 3) := by decide +kernel
theorem dX4_edge_70 : decode cX4_edge 70 = .ok (.bipush (-9), 2) := by decide +kernel
theorem dX4_edge_72 : decode cX4_edge 72 = .ok (.if_icmp .eq 5, 3) := by decide +kernel
theorem dX4_edge_75 : decode cX4_edge 75 = .ok (.iconst 2, 1) := by decide +kernel
theorem dX4_edge_76 : decode cX4_edge 76 = .ok (.ireturn, 1) := by decide +kernel
theorem dX4_edge_77 : decode cX4_edge 77 = .ok (.aload_n 0, 1) := by decide +kernel
theorem dX4_edge_78 : decode cX4_edge 78 = .ok (.iload_n 3, 1) := by decide +kernel
theorem dX4_edge_79 : decode cX4_edge 79 = .ok (.iload_n 2, 1) := by decide +kernel
theorem dX4_edge_80 : decode cX4_edge 80 = .ok (.invokevirtual 121, 3) := by decide +kernel
theorem dX4_edge_83 : decode cX4_edge 83 = .ok (.bipush (-9), 2) := by decide +kernel
theorem dX4_edge_85 : decode cX4_edge 85 = .ok (.if_icmp .eq 7, 3) := by decide +kernel
theorem dX4_edge_88 : decode cX4_edge 88 = .ok (.iconst 1, 1) := by decide +kernel
theorem dX4_edge_89 : decode cX4_edge 89 = .ok (.goto 4, 3) := by decide +kernel
theorem dX4_edge_92 : decode cX4_edge 92 = .ok (.iconst 0, 1) := by decide +kernel
theorem dX4_edge_93 : decode cX4_edge 93 = .ok (.ireturn, 1) := by decide +kernel
theorem dX4_faceOf_0 : decode cX4_faceOf 0 = .ok (.iconst 0, 1) := by decide +kernel
theorem dX4_faceOf_1 : decode cX4_faceOf 1 = .ok (.istore_n 3, 1) := by decide +kernel
theorem dX4_faceOf_2 : decode cX4_faceOf 2 = .ok (.iload_n 3, 1) := by decide +kernel
theorem dX4_faceOf_3 : decode cX4_faceOf 3 = .ok (.aload_n 0, 1) := by decide +kernel
theorem dX4_faceOf_4 : decode cX4_faceOf 4 = .ok (.getfield 115, 3) := by decide +kernel
theorem dX4_faceOf_7 : decode cX4_faceOf 7 = .ok (.if_icmp .ge 31, 3) := by decide +kernel
theorem dX4_faceOf_10 : decode cX4_faceOf 10 = .ok (.aload_n 0, 1) := by decide +kernel
theorem dX4_faceOf_11 : decode cX4_faceOf 11 = .ok (.getfield 19, 3) := by decide +kernel
theorem dX4_faceOf_14 : decode cX4_faceOf 14 = .ok (.iload_n 3, 1) := by decide +kernel
theorem dX4_faceOf_15 : decode cX4_faceOf 15 = .ok (.iaload, 1) := by decide +kernel
theorem dX4_faceOf_16 : decode cX4_faceOf 16 = .ok (.iload_n 1, 1) := by decide +kernel
theorem dX4_faceOf_17 : decode cX4_faceOf 17 = .ok (.if_icmp .ne 15, 3) := by decide +kernel
theorem dX4_faceOf_20 : decode cX4_faceOf 20 = .ok (.aload_n 0, 1) := by decide +kernel
theorem dX4_faceOf_21 : decode cX4_faceOf 21 = .ok (.getfield 22, 3) := by decide +kernel
theorem dX4_faceOf_24 : decode cX4_faceOf 24 = .ok (.iload_n 3, 1) := by decide +kernel
theorem dX4_faceOf_25 : decode cX4_faceOf 25 = .ok (.iaload, 1) := by decide +kernel
theorem dX4_faceOf_26 : decode cX4_faceOf 26 = .ok (.iload_n 2, 1) := by decide +kernel
theorem dX4_faceOf_27 : decode cX4_faceOf 27 = .ok (.if_icmp .ne 5, 3) := by decide +kernel
theorem dX4_faceOf_30 : decode cX4_faceOf 30 = .ok (.iload_n 3, 1) := by decide +kernel
theorem dX4_faceOf_31 : decode cX4_faceOf 31 = .ok (.ireturn, 1) := by decide +kernel
theorem dX4_faceOf_32 : decode cX4_faceOf 32 = .ok (.iinc 3 1, 3) := by decide +kernel
theorem dX4_faceOf_35 : decode cX4_faceOf 35 = .ok (.goto (-33), 3) := by decide +kernel
theorem dX4_faceOf_38 : decode cX4_faceOf 38 = .ok (.bipush (-9), 2) := by decide +kernel
theorem dX4_faceOf_40 : decode cX4_faceOf 40 = .ok (.ireturn, 1) := by decide +kernel
theorem dX4_led_0 : decode cX4_led 0 = .ok (.aload_n 0, 1) := by decide +kernel
theorem dX4_led_1 : decode cX4_led 1 = .ok (.iload_n 1, 1) := by decide +kernel
theorem dX4_led_2 : decode cX4_led 2 = .ok (.iload_n 2, 1) := by decide +kernel
theorem dX4_led_3 : decode cX4_led 3 = .ok (.invokevirtual 170, 3) := by decide +kernel
theorem dX4_led_6 : decode cX4_led 6 = .ok (.istore_n 3, 1) := by decide +kernel
theorem dX4_led_7 : decode cX4_led 7 = .ok (.iload_n 3, 1) := by decide +kernel
theorem dX4_led_8 : decode cX4_led 8 = .ok (.iconst 2, 1) := by decide +kernel
theorem dX4_led_9 : decode cX4_led 9 = .ok (.if_icmp .ne 12, 3) := by decide +kernel
theorem dX4_led_12 : decode cX4_led 12 = .ok (.aload_n 0, 1) := by decide +kernel
theorem dX4_led_13 : decode cX4_led 13 = .ok (.getfield 22, 3) := by decide +kernel
theorem dX4_led_16 : decode cX4_led 16 = .ok (.iload_n 1, 1) := by decide +kernel
theorem dX4_led_17 : decode cX4_led 17 = .ok (.iaload, 1) := by decide +kernel
theorem dX4_led_18 : decode cX4_led 18 = .ok (.goto 20, 3) := by decide +kernel
theorem dX4_led_21 : decode cX4_led 21 = .ok (.iload_n 3, 1) := by decide +kernel
theorem dX4_led_22 : decode cX4_led 22 = .ok (.iconst 1, 1) := by decide +kernel
theorem dX4_led_23 : decode cX4_led 23 = .ok (.if_icmp .ne 7, 3) := by decide +kernel
theorem dX4_led_26 : decode cX4_led 26 = .ok (.iload_n 2, 1) := by decide +kernel
theorem dX4_led_27 : decode cX4_led 27 = .ok (.goto 11, 3) := by decide +kernel
theorem dX4_led_30 : decode cX4_led 30 = .ok (.aload_n 0, 1) := by decide +kernel
theorem dX4_led_31 : decode cX4_led 31 = .ok (.getfield 22, 3) := by decide +kernel
theorem dX4_led_34 : decode cX4_led 34 = .ok (.iload_n 1, 1) := by decide +kernel
theorem dX4_led_35 : decode cX4_led 35 = .ok (.iaload, 1) := by decide +kernel
theorem dX4_led_36 : decode cX4_led 36 = .ok (.iconst 1, 1) := by decide +kernel
theorem dX4_led_37 : decode cX4_led 37 = .ok (.ixor, 1) := by decide +kernel
theorem dX4_led_38 : decode cX4_led 38 = .ok (.ireturn, 1) := by decide +kernel
theorem dX4_firstRight_0 : decode cX4_firstRight 0 = .ok (.iload_n 0, 1) := by decide +kernel
theorem dX4_firstRight_1 : decode cX4_firstRight 1 = .ok (.ifCond .ne 7, 3) := by decide +kernel
theorem dX4_firstRight_4 : decode cX4_firstRight 4 = .ok (.iconst 2, 1) := by decide +kernel
theorem dX4_firstRight_5 : decode cX4_firstRight 5 = .ok (.goto 32, 3) := by decide +kernel
theorem dX4_firstRight_8 : decode cX4_firstRight 8 = .ok (.iload_n 0, 1) := by decide +kernel
theorem dX4_firstRight_9 : decode cX4_firstRight 9 = .ok (.iconst 1, 1) := by decide +kernel
theorem dX4_firstRight_10 : decode cX4_firstRight 10 = .ok (.if_icmp .eq 8, 3) := by decide +kernel
theorem dX4_firstRight_13 : decode cX4_firstRight 13 = .ok (.iload_n 0, 1) := by decide +kernel
theorem dX4_firstRight_14 : decode cX4_firstRight 14 = .ok (.iconst 2, 1) := by decide +kernel
theorem dX4_firstRight_15 : decode cX4_firstRight 15 = .ok (.if_icmp .ne 7, 3) := by decide +kernel
theorem dX4_firstRight_18 : decode cX4_firstRight 18 = .ok (.iconst 4, 1) := by decide +kernel
theorem dX4_firstRight_19 : decode cX4_firstRight 19 = .ok (.goto 18, 3) := by decide +kernel
theorem dX4_firstRight_22 : decode cX4_firstRight 22 = .ok (.iload_n 0, 1) := by decide +kernel
theorem dX4_firstRight_23 : decode cX4_firstRight 23 = .ok (.iconst 3, 1) := by decide +kernel
theorem dX4_firstRight_24 : decode cX4_firstRight 24 = .ok (.if_icmp .eq 8, 3) := by decide +kernel
theorem dX4_firstRight_27 : decode cX4_firstRight 27 = .ok (.iload_n 0, 1) := by decide +kernel
theorem dX4_firstRight_28 : decode cX4_firstRight 28 = .ok (.iconst 4, 1) := by decide +kernel
theorem dX4_firstRight_29 : decode cX4_firstRight 29 = .ok (.if_icmp .ne 7, 3) := by decide +kernel
theorem dX4_firstRight_32 : decode cX4_firstRight 32 = .ok (.iconst 0, 1) := by decide +kernel
theorem dX4_firstRight_33 : decode cX4_firstRight 33 = .ok (.goto 4, 3) := by decide +kernel
theorem dX4_firstRight_36 : decode cX4_firstRight 36 = .ok (.iconst 2, 1) := by decide +kernel
theorem dX4_firstRight_37 : decode cX4_firstRight 37 = .ok (.ireturn, 1) := by decide +kernel
theorem dX4_firstUp_0 : decode cX4_firstUp 0 = .ok (.iload_n 0, 1) := by decide +kernel
theorem dX4_firstUp_1 : decode cX4_firstUp 1 = .ok (.ifCond .ne 7, 3) := by decide +kernel
theorem dX4_firstUp_4 : decode cX4_firstUp 4 = .ok (.iconst 4, 1) := by decide +kernel
theorem dX4_firstUp_5 : decode cX4_firstUp 5 = .ok (.goto 40, 3) := by decide +kernel
theorem dX4_firstUp_8 : decode cX4_firstUp 8 = .ok (.iload_n 0, 1) := by decide +kernel
theorem dX4_firstUp_9 : decode cX4_firstUp 9 = .ok (.iconst 1, 1) := by decide +kernel
theorem dX4_firstUp_10 : decode cX4_firstUp 10 = .ok (.if_icmp .ne 7, 3) := by decide +kernel
theorem dX4_firstUp_13 : decode cX4_firstUp 13 = .ok (.iconst 2, 1) := by decide +kernel
theorem dX4_firstUp_14 : decode cX4_firstUp 14 = .ok (.goto 31, 3) := by decide +kernel
theorem dX4_firstUp_17 : decode cX4_firstUp 17 = .ok (.iload_n 0, 1) := by decide +kernel
theorem dX4_firstUp_18 : decode cX4_firstUp 18 = .ok (.iconst 2, 1) := by decide +kernel
theorem dX4_firstUp_19 : decode cX4_firstUp 19 = .ok (.if_icmp .ne 7, 3) := by decide +kernel
theorem dX4_firstUp_22 : decode cX4_firstUp 22 = .ok (.iconst 0, 1) := by decide +kernel
theorem dX4_firstUp_23 : decode cX4_firstUp 23 = .ok (.goto 22, 3) := by decide +kernel
theorem dX4_firstUp_26 : decode cX4_firstUp 26 = .ok (.iload_n 0, 1) := by decide +kernel
theorem dX4_firstUp_27 : decode cX4_firstUp 27 = .ok (.iconst 3, 1) := by decide +kernel
theorem dX4_firstUp_28 : decode cX4_firstUp 28 = .ok (.if_icmp .ne 7, 3) := by decide +kernel
theorem dX4_firstUp_31 : decode cX4_firstUp 31 = .ok (.iconst 4, 1) := by decide +kernel
theorem dX4_firstUp_32 : decode cX4_firstUp 32 = .ok (.goto 13, 3) := by decide +kernel
theorem dX4_firstUp_35 : decode cX4_firstUp 35 = .ok (.iload_n 0, 1) := by decide +kernel
theorem dX4_firstUp_36 : decode cX4_firstUp 36 = .ok (.iconst 4, 1) := by decide +kernel
theorem dX4_firstUp_37 : decode cX4_firstUp 37 = .ok (.if_icmp .ne 7, 3) := by decide +kernel
theorem dX4_firstUp_40 : decode cX4_firstUp 40 = .ok (.iconst 2, 1) := by decide +kernel
theorem dX4_firstUp_41 : decode cX4_firstUp 41 = .ok (.goto 4, 3) := by decide +kernel
theorem dX4_firstUp_44 : decode cX4_firstUp 44 = .ok (.iconst 0, 1) := by decide +kernel
theorem dX4_firstUp_45 : decode cX4_firstUp 45 = .ok (.ireturn, 1) := by decide +kernel
theorem dX4_cube_0 : decode cX4_cube 0 = .ok (.iload_n 1, 1) := by decide +kernel
theorem dX4_cube_1 : decode cX4_cube 1 = .ok (.ifCond .lt 26, 3) := by decide +kernel
theorem dX4_cube_4 : decode cX4_cube 4 = .ok (.iload_n 1, 1) := by decide +kernel
theorem dX4_cube_5 : decode cX4_cube 5 = .ok (.iconst 4, 1) := by decide +kernel
theorem dX4_cube_6 : decode cX4_cube 6 = .ok (.if_icmp .gt 21, 3) := by decide +kernel
theorem dX4_cube_9 : decode cX4_cube 9 = .ok (.iload_n 2, 1) := by decide +kernel
theorem dX4_cube_10 : decode cX4_cube 10 = .ok (.ifCond .lt 17, 3) := by decide +kernel
theorem dX4_cube_13 : decode cX4_cube 13 = .ok (.iload_n 2, 1) := by decide +kernel
theorem dX4_cube_14 : decode cX4_cube 14 = .ok (.iconst 4, 1) := by decide +kernel
theorem dX4_cube_15 : decode cX4_cube 15 = .ok (.if_icmp .gt 12, 3) := by decide +kernel
theorem dX4_cube_18 : decode cX4_cube 18 = .ok (.iload_n 3, 1) := by decide +kernel
theorem dX4_cube_19 : decode cX4_cube 19 = .ok (.ifCond .lt 8, 3) := by decide +kernel
theorem dX4_cube_22 : decode cX4_cube 22 = .ok (.iload_n 3, 1) := by decide +kernel
theorem dX4_cube_23 : decode cX4_cube 23 = .ok (.iconst 4, 1) := by decide +kernel
theorem dX4_cube_24 : decode cX4_cube 24 = .ok (.if_icmp .le 5, 3) := by decide +kernel
theorem dX4_cube_27 : decode cX4_cube 27 = .ok (.iconst (-1), 1) := by decide +kernel
theorem dX4_cube_28 : decode cX4_cube 28 = .ok (.ireturn, 1) := by decide +kernel
theorem dX4_cube_29 : decode cX4_cube 29 = .ok (.aload_n 0, 1) := by decide +kernel
theorem dX4_cube_30 : decode cX4_cube 30 = .ok (.getfield 118, 3) := by decide +kernel
theorem dX4_cube_33 : decode cX4_cube 33 = .ok (.ifCond .ne 7, 3) := by decide +kernel
theorem dX4_cube_36 : decode cX4_cube 36 = .ok (.iconst 1, 1) := by decide +kernel
theorem dX4_cube_37 : decode cX4_cube 37 = .ok (.goto 4, 3) := by decide +kernel
theorem dX4_cube_40 : decode cX4_cube 40 = .ok (.iconst 0, 1) := by decide +kernel
theorem dX4_cube_41 : decode cX4_cube 41 = .ok (.istore 4, 2) := by decide +kernel
theorem dX4_cube_43 : decode cX4_cube 43 = .ok (.iconst 0, 1) := by decide +kernel
theorem dX4_cube_44 : decode cX4_cube 44 = .ok (.istore 5, 2) := by decide +kernel
theorem dX4_cube_46 : decode cX4_cube 46 = .ok (.iload 5, 2) := by decide +kernel
theorem dX4_cube_48 : decode cX4_cube 48 = .ok (.bipush 6, 2) := by decide +kernel
theorem dX4_cube_50 : decode cX4_cube 50 = .ok (.if_icmp .ge 51, 3) := by decide +kernel
theorem dX4_cube_53 : decode cX4_cube 53 = .ok (.iload 4, 2) := by decide +kernel
theorem dX4_cube_55 : decode cX4_cube 55 = .ok (.ifCond .ne 33, 3) := by decide +kernel
theorem dX4_cube_58 : decode cX4_cube 58 = .ok (.aload_n 0, 1) := by decide +kernel
theorem dX4_cube_59 : decode cX4_cube 59 = .ok (.iload_n 1, 1) := by decide +kernel
theorem dX4_cube_60 : decode cX4_cube 60 = .ok (.iload 5, 2) := by decide +kernel
theorem dX4_cube_62 : decode cX4_cube 62 = .ok (.invokestatic 157, 3) := by decide +kernel
theorem dX4_cube_65 : decode cX4_cube 65 = .ok (.iadd, 1) := by decide +kernel
theorem dX4_cube_66 : decode cX4_cube 66 = .ok (.iload_n 2, 1) := by decide +kernel
theorem dX4_cube_67 : decode cX4_cube 67 = .ok (.iload 5, 2) := by decide +kernel
theorem dX4_cube_69 : decode cX4_cube 69 = .ok (.invokestatic 160, 3) := by decide +kernel
theorem dX4_cube_72 : decode cX4_cube 72 = .ok (.iadd, 1) := by decide +kernel
theorem dX4_cube_73 : decode cX4_cube 73 = .ok (.iload_n 3, 1) := by decide +kernel
theorem dX4_cube_74 : decode cX4_cube 74 = .ok (.iload 5, 2) := by decide +kernel
theorem dX4_cube_76 : decode cX4_cube 76 = .ok (.invokestatic 163, 3) := by decide +kernel
theorem dX4_cube_79 : decode cX4_cube 79 = .ok (.iadd, 1) := by decide +kernel
theorem dX4_cube_80 : decode cX4_cube 80 = .ok (.invokevirtual 166, 3) := by decide +kernel
theorem dX4_cube_83 : decode cX4_cube 83 = .ok (.bipush (-9), 2) := by decide +kernel
theorem dX4_cube_85 : decode cX4_cube 85 = .ok (.if_icmp .eq 7, 3) := by decide +kernel
theorem dX4_cube_88 : decode cX4_cube 88 = .ok (.iconst 1, 1) := by decide +kernel
theorem dX4_cube_89 : decode cX4_cube 89 = .ok (.goto 4, 3) := by decide +kernel
theorem dX4_cube_92 : decode cX4_cube 92 = .ok (.iconst 0, 1) := by decide +kernel
theorem dX4_cube_93 : decode cX4_cube 93 = .ok (.istore 4, 2) := by decide +kernel
theorem dX4_cube_95 : decode cX4_cube 95 = .ok (.iinc 5 1, 3) := by decide +kernel
theorem dX4_cube_98 : decode cX4_cube 98 = .ok (.goto (-52), 3) := by decide +kernel
theorem dX4_cube_101 : decode cX4_cube 101 = .ok (.aload_n 0, 1) := by decide +kernel
theorem dX4_cube_102 : decode cX4_cube 102 = .ok (.iload_n 1, 1) := by decide +kernel
theorem dX4_cube_103 : decode cX4_cube 103 = .ok (.iload_n 2, 1) := by decide +kernel
theorem dX4_cube_104 : decode cX4_cube 104 = .ok (.iload_n 3, 1) := by decide +kernel
theorem dX4_cube_105 : decode cX4_cube 105 = .ok (.invokevirtual 166, 3) := by decide +kernel
theorem dX4_cube_108 : decode cX4_cube 108 = .ok (.bipush (-9), 2) := by decide +kernel
theorem dX4_cube_110 : decode cX4_cube 110 = .ok (.if_icmp .ne 8, 3) := by decide +kernel
theorem dX4_cube_113 : decode cX4_cube 113 = .ok (.iload 4, 2) := by decide +kernel
theorem dX4_cube_115 : decode cX4_cube 115 = .ok (.ifCond .ne 6, 3) := by decide +kernel
theorem dX4_cube_118 : decode cX4_cube 118 = .ok (.bipush (-3), 2) := by decide +kernel
theorem dX4_cube_120 : decode cX4_cube 120 = .ok (.ireturn, 1) := by decide +kernel
theorem dX4_cube_121 : decode cX4_cube 121 = .ok (.aload_n 0, 1) := by decide +kernel
theorem dX4_cube_122 : decode cX4_cube 122 = .ok (.getfield 118, 3) := by decide +kernel
theorem dX4_cube_125 : decode cX4_cube 125 = .ok (.iconst 5, 1) := by decide +kernel
theorem dX4_cube_126 : decode cX4_cube 126 = .ok (.if_icmp .ne 6, 3) := by decide +kernel
theorem dX4_cube_129 : decode cX4_cube 129 = .ok (.bipush (-4), 2) := by decide +kernel
theorem dX4_cube_131 : decode cX4_cube 131 = .ok (.ireturn, 1) := by decide +kernel
theorem dX4_cube_132 : decode cX4_cube 132 = .ok (.aload_n 0, 1) := by decide +kernel
theorem dX4_cube_133 : decode cX4_cube 133 = .ok (.getfield 7, 3) := by decide +kernel
theorem dX4_cube_136 : decode cX4_cube 136 = .ok (.aload_n 0, 1) := by decide +kernel
theorem dX4_cube_137 : decode cX4_cube 137 = .ok (.getfield 118, 3) := by decide +kernel
theorem dX4_cube_140 : decode cX4_cube 140 = .ok (.iload_n 1, 1) := by decide +kernel
theorem dX4_cube_141 : decode cX4_cube 141 = .ok (.iastore, 1) := by decide +kernel
theorem dX4_cube_142 : decode cX4_cube 142 = .ok (.aload_n 0, 1) := by decide +kernel
theorem dX4_cube_143 : decode cX4_cube 143 = .ok (.getfield 13, 3) := by decide +kernel
theorem dX4_cube_146 : decode cX4_cube 146 = .ok (.aload_n 0, 1) := by decide +kernel
theorem dX4_cube_147 : decode cX4_cube 147 = .ok (.getfield 118, 3) := by decide +kernel
theorem dX4_cube_150 : decode cX4_cube 150 = .ok (.iload_n 2, 1) := by decide +kernel
theorem dX4_cube_151 : decode cX4_cube 151 = .ok (.iastore, 1) := by decide +kernel
theorem dX4_cube_152 : decode cX4_cube 152 = .ok (.aload_n 0, 1) := by decide +kernel
theorem dX4_cube_153 : decode cX4_cube 153 = .ok (.getfield 16, 3) := by decide +kernel
theorem dX4_cube_156 : decode cX4_cube 156 = .ok (.aload_n 0, 1) := by decide +kernel
theorem dX4_cube_157 : decode cX4_cube 157 = .ok (.getfield 118, 3) := by decide +kernel
theorem dX4_cube_160 : decode cX4_cube 160 = .ok (.iload_n 3, 1) := by decide +kernel
theorem dX4_cube_161 : decode cX4_cube 161 = .ok (.iastore, 1) := by decide +kernel
theorem dX4_cube_162 : decode cX4_cube 162 = .ok (.aload_n 0, 1) := by decide +kernel
theorem dX4_cube_163 : decode cX4_cube 163 = .ok (.dup, 1) := by decide +kernel
theorem dX4_cube_164 : decode cX4_cube 164 = .ok (.getfield 118, 3) := by decide +kernel
theorem dX4_cube_167 : decode cX4_cube 167 = .ok (.iconst 1, 1) := by decide +kernel
theorem dX4_cube_168 : decode cX4_cube 168 = .ok (.iadd, 1) := by decide +kernel
theorem dX4_cube_169 : decode cX4_cube 169 = .ok (.putfield 118, 3) := by decide +kernel
theorem dX4_cube_172 : decode cX4_cube 172 = .ok (.aload_n 0, 1) := by decide +kernel
theorem dX4_cube_173 : decode cX4_cube 173 = .ok (.invokevirtual 108, 3) := by decide +kernel
theorem dX4_cube_176 : decode cX4_cube 176 = .ok (.aload_n 0, 1) := by decide +kernel
theorem dX4_cube_177 : decode cX4_cube 177 = .ok (.getfield 115, 3) := by decide +kernel
theorem dX4_cube_180 : decode cX4_cube 180 = .ok (.ireturn, 1) := by decide +kernel
theorem dX4_clear_0 : decode cX4_clear 0 = .ok (.aload_n 0, 1) := by decide +kernel
theorem dX4_clear_1 : decode cX4_clear 1 = .ok (.getfield 118, 3) := by decide +kernel
theorem dX4_clear_4 : decode cX4_clear 4 = .ok (.istore_n 1, 1) := by decide +kernel
theorem dX4_clear_5 : decode cX4_clear 5 = .ok (.aload_n 0, 1) := by decide +kernel
theorem dX4_clear_6 : decode cX4_clear 6 = .ok (.iconst 0, 1) := by decide +kernel
theorem dX4_clear_7 : decode cX4_clear 7 = .ok (.putfield 118, 3) := by decide +kernel
theorem dX4_clear_10 : decode cX4_clear 10 = .ok (.aload_n 0, 1) := by decide +kernel
theorem dX4_clear_11 : decode cX4_clear 11 = .ok (.invokevirtual 108, 3) := by decide +kernel
theorem dX4_clear_14 : decode cX4_clear 14 = .ok (.iload_n 1, 1) := by decide +kernel
theorem dX4_clear_15 : decode cX4_clear 15 = .ok (.ireturn, 1) := by decide +kernel
theorem dX4_forget_0 : decode cX4_forget 0 = .ok (.aload_n 0, 1) := by decide +kernel
theorem dX4_forget_1 : decode cX4_forget 1 = .ok (.getfield 182, 3) := by decide +kernel
theorem dX4_forget_4 : decode cX4_forget 4 = .ok (.istore_n 1, 1) := by decide +kernel
theorem dX4_forget_5 : decode cX4_forget 5 = .ok (.aload_n 0, 1) := by decide +kernel
theorem dX4_forget_6 : decode cX4_forget 6 = .ok (.iconst 0, 1) := by decide +kernel
theorem dX4_forget_7 : decode cX4_forget 7 = .ok (.putfield 182, 3) := by decide +kernel
theorem dX4_forget_10 : decode cX4_forget 10 = .ok (.iload_n 1, 1) := by decide +kernel
theorem dX4_forget_11 : decode cX4_forget 11 = .ok (.ireturn, 1) := by decide +kernel
theorem dX4_face_0 : decode cX4_face 0 = .ok (.aload_n 0, 1) := by decide +kernel
theorem dX4_face_1 : decode cX4_face 1 = .ok (.iload_n 1, 1) := by decide +kernel
theorem dX4_face_2 : decode cX4_face 2 = .ok (.invokevirtual 185, 3) := by decide +kernel
theorem dX4_face_5 : decode cX4_face 5 = .ok (.ifCond .eq 12, 3) := by decide +kernel
theorem dX4_face_8 : decode cX4_face 8 = .ok (.iload_n 2, 1) := by decide +kernel
theorem dX4_face_9 : decode cX4_face 9 = .ok (.ifCond .lt 8, 3) := by decide +kernel
theorem dX4_face_12 : decode cX4_face 12 = .ok (.iload_n 2, 1) := by decide +kernel
theorem dX4_face_13 : decode cX4_face 13 = .ok (.iconst 1, 1) := by decide +kernel
theorem dX4_face_14 : decode cX4_face 14 = .ok (.if_icmp .le 7, 3) := by decide +kernel
theorem dX4_face_17 : decode cX4_face 17 = .ok (.iconst (-1), 1) := by decide +kernel
theorem dX4_face_18 : decode cX4_face 18 = .ok (.goto 22, 3) := by decide +kernel
theorem dX4_face_21 : decode cX4_face 21 = .ok (.iload_n 2, 1) := by decide +kernel
theorem dX4_face_22 : decode cX4_face 22 = .ok (.ifCond .ne 12, 3) := by decide +kernel
theorem dX4_face_25 : decode cX4_face 25 = .ok (.aload_n 0, 1) := by decide +kernel
theorem dX4_face_26 : decode cX4_face 26 = .ok (.getfield 19, 3) := by decide +kernel
theorem dX4_face_29 : decode cX4_face 29 = .ok (.iload_n 1, 1) := by decide +kernel
theorem dX4_face_30 : decode cX4_face 30 = .ok (.iaload, 1) := by decide +kernel
theorem dX4_face_31 : decode cX4_face 31 = .ok (.goto 9, 3) := by decide +kernel
theorem dX4_face_34 : decode cX4_face 34 = .ok (.aload_n 0, 1) := by decide +kernel
theorem dX4_face_35 : decode cX4_face 35 = .ok (.getfield 22, 3) := by decide +kernel
theorem dX4_face_38 : decode cX4_face 38 = .ok (.iload_n 1, 1) := by decide +kernel
theorem dX4_face_39 : decode cX4_face 39 = .ok (.iaload, 1) := by decide +kernel
theorem dX4_face_40 : decode cX4_face 40 = .ok (.ireturn, 1) := by decide +kernel
theorem dX4_isFace_0 : decode cX4_isFace 0 = .ok (.iload_n 1, 1) := by decide +kernel
theorem dX4_isFace_1 : decode cX4_isFace 1 = .ok (.ifCond .lt 15, 3) := by decide +kernel
theorem dX4_isFace_4 : decode cX4_isFace 4 = .ok (.iload_n 1, 1) := by decide +kernel
theorem dX4_isFace_5 : decode cX4_isFace 5 = .ok (.aload_n 0, 1) := by decide +kernel
theorem dX4_isFace_6 : decode cX4_isFace 6 = .ok (.getfield 115, 3) := by decide +kernel
theorem dX4_isFace_9 : decode cX4_isFace 9 = .ok (.if_icmp .ge 7, 3) := by decide +kernel
theorem dX4_isFace_12 : decode cX4_isFace 12 = .ok (.iconst 1, 1) := by decide +kernel
theorem dX4_isFace_13 : decode cX4_isFace 13 = .ok (.goto 4, 3) := by decide +kernel
theorem dX4_isFace_16 : decode cX4_isFace 16 = .ok (.iconst 0, 1) := by decide +kernel
theorem dX4_isFace_17 : decode cX4_isFace 17 = .ok (.ireturn, 1) := by decide +kernel
theorem dX4_across_0 : decode cX4_across 0 = .ok (.aload_n 0, 1) := by decide +kernel
theorem dX4_across_1 : decode cX4_across 1 = .ok (.iload_n 1, 1) := by decide +kernel
theorem dX4_across_2 : decode cX4_across 2 = .ok (.invokevirtual 185, 3) := by decide +kernel
theorem dX4_across_5 : decode cX4_across 5 = .ok (.ifCond .eq 26, 3) := by decide +kernel
theorem dX4_across_8 : decode cX4_across 8 = .ok (.iload_n 2, 1) := by decide +kernel
theorem dX4_across_9 : decode cX4_across 9 = .ok (.ifCond .lt 22, 3) := by decide +kernel
theorem dX4_across_12 : decode cX4_across 12 = .ok (.iload_n 2, 1) := by decide +kernel
theorem dX4_across_13 : decode cX4_across 13 = .ok (.iconst 5, 1) := by decide +kernel
theorem dX4_across_14 : decode cX4_across 14 = .ok (.if_icmp .gt 17, 3) := by decide +kernel
theorem dX4_across_17 : decode cX4_across 17 = .ok (.iload_n 2, 1) := by decide +kernel
theorem dX4_across_18 : decode cX4_across 18 = .ok (.iconst 2, 1) := by decide +kernel
theorem dX4_across_19 : decode cX4_across 19 = .ok (.idiv, 1) := by decide +kernel
theorem dX4_across_20 : decode cX4_across 20 = .ok (.aload_n 0, 1) := by decide +kernel
theorem dX4_across_21 : decode cX4_across 21 = .ok (.getfield 22, 3) := by decide +kernel
theorem dX4_across_24 : decode cX4_across 24 = .ok (.iload_n 1, 1) := by decide +kernel
theorem dX4_across_25 : decode cX4_across 25 = .ok (.iaload, 1) := by decide +kernel
theorem dX4_across_26 : decode cX4_across 26 = .ok (.iconst 2, 1) := by decide +kernel
theorem dX4_across_27 : decode cX4_across 27 = .ok (.idiv, 1) := by decide +kernel
theorem dX4_across_28 : decode cX4_across 28 = .ok (.if_icmp .ne 7, 3) := by decide +kernel
theorem dX4_across_31 : decode cX4_across 31 = .ok (.iconst (-1), 1) := by decide +kernel
theorem dX4_across_32 : decode cX4_across 32 = .ok (.goto 9, 3) := by decide +kernel
theorem dX4_across_35 : decode cX4_across 35 = .ok (.aload_n 0, 1) := by decide +kernel
theorem dX4_across_36 : decode cX4_across 36 = .ok (.iload_n 1, 1) := by decide +kernel
theorem dX4_across_37 : decode cX4_across 37 = .ok (.iload_n 2, 1) := by decide +kernel
theorem dX4_across_38 : decode cX4_across 38 = .ok (.invokevirtual 189, 3) := by decide +kernel
theorem dX4_across_41 : decode cX4_across 41 = .ok (.ireturn, 1) := by decide +kernel
theorem dX4_beside_0 : decode cX4_beside 0 = .ok (.aload_n 0, 1) := by decide +kernel
theorem dX4_beside_1 : decode cX4_beside 1 = .ok (.getfield 74, 3) := by decide +kernel
theorem dX4_beside_4 : decode cX4_beside 4 = .ok (.bipush 6, 2) := by decide +kernel
theorem dX4_beside_6 : decode cX4_beside 6 = .ok (.iload_n 1, 1) := by decide +kernel
theorem dX4_beside_7 : decode cX4_beside 7 = .ok (.imul, 1) := by decide +kernel
theorem dX4_beside_8 : decode cX4_beside 8 = .ok (.iload_n 2, 1) := by decide +kernel
theorem dX4_beside_9 : decode cX4_beside 9 = .ok (.iadd, 1) := by decide +kernel
theorem dX4_beside_10 : decode cX4_beside 10 = .ok (.iaload, 1) := by decide +kernel
theorem dX4_beside_11 : decode cX4_beside 11 = .ok (.ireturn, 1) := by decide +kernel
theorem dX4_trees_0 : decode cX4_trees 0 = .ok (.aload_n 0, 1) := by decide +kernel
theorem dX4_trees_1 : decode cX4_trees 1 = .ok (.getfield 118, 3) := by decide +kernel
theorem dX4_trees_4 : decode cX4_trees 4 = .ok (.ifCond .ne 7, 3) := by decide +kernel
theorem dX4_trees_7 : decode cX4_trees 7 = .ok (.ldc2_w 198, 3) := by decide +kernel
theorem dX4_trees_10 : decode cX4_trees 10 = .ok (.lreturn, 1) := by decide +kernel
theorem dX4_trees_11 : decode cX4_trees 11 = .ok (.ldc2_w 200, 3) := by decide +kernel
theorem dX4_trees_14 : decode cX4_trees 14 = .ok (.lstore_n 1, 1) := by decide +kernel
theorem dX4_trees_15 : decode cX4_trees 15 = .ok (.ldc2_w 202, 3) := by decide +kernel
theorem dX4_trees_18 : decode cX4_trees 18 = .ok (.lstore_n 3, 1) := by decide +kernel
theorem dX4_trees_19 : decode cX4_trees 19 = .ok (.aload_n 0, 1) := by decide +kernel
theorem dX4_trees_20 : decode cX4_trees 20 = .ok (.lload_n 1, 1) := by decide +kernel
theorem dX4_trees_21 : decode cX4_trees 21 = .ok (.invokevirtual 204, 3) := by decide +kernel
theorem dX4_trees_24 : decode cX4_trees 24 = .ok (.lstore 5, 2) := by decide +kernel
theorem dX4_trees_26 : decode cX4_trees 26 = .ok (.aload_n 0, 1) := by decide +kernel
theorem dX4_trees_27 : decode cX4_trees 27 = .ok (.lload_n 3, 1) := by decide +kernel
theorem dX4_trees_28 : decode cX4_trees 28 = .ok (.invokevirtual 204, 3) := by decide +kernel
theorem dX4_trees_31 : decode cX4_trees 31 = .ok (.lstore 7, 2) := by decide +kernel
theorem dX4_trees_33 : decode cX4_trees 33 = .ok (.lload 7, 2) := by decide +kernel
theorem dX4_trees_35 : decode cX4_trees 35 = .ok (.lload 5, 2) := by decide +kernel
theorem dX4_trees_37 : decode cX4_trees 37 = .ok (.lload_n 3, 1) := by decide +kernel
theorem dX4_trees_38 : decode cX4_trees 38 = .ok (.lrem, 1) := by decide +kernel
theorem dX4_trees_39 : decode cX4_trees 39 = .ok (.lsub, 1) := by decide +kernel
theorem dX4_trees_40 : decode cX4_trees 40 = .ok (.lload_n 3, 1) := by decide +kernel
theorem dX4_trees_41 : decode cX4_trees 41 = .ok (.ladd, 1) := by decide +kernel
theorem dX4_trees_42 : decode cX4_trees 42 = .ok (.lload_n 3, 1) := by decide +kernel
theorem dX4_trees_43 : decode cX4_trees 43 = .ok (.lrem, 1) := by decide +kernel
theorem dX4_trees_44 : decode cX4_trees 44 = .ok (.lload_n 1, 1) := by decide +kernel
theorem dX4_trees_45 : decode cX4_trees 45 = .ok (.lload_n 3, 1) := by decide +kernel
theorem dX4_trees_46 : decode cX4_trees 46 = .ok (.lrem, 1) := by decide +kernel
theorem dX4_trees_47 : decode cX4_trees 47 = .ok (.lload_n 3, 1) := by decide +kernel
theorem dX4_trees_48 : decode cX4_trees 48 = .ok (.ldc2_w 192, 3) := by decide +kernel
theorem dX4_trees_51 : decode cX4_trees 51 = .ok (.lsub, 1) := by decide +kernel
theorem dX4_trees_52 : decode cX4_trees 52 = .ok (.lload_n 3, 1) := by decide +kernel
theorem dX4_trees_53 : decode cX4_trees 53 = .ok (.invokestatic 194, 3) := by decide +kernel
theorem dX4_trees_56 : decode cX4_trees 56 = .ok (.lmul, 1) := by decide +kernel
theorem dX4_trees_57 : decode cX4_trees 57 = .ok (.lload_n 3, 1) := by decide +kernel
theorem dX4_trees_58 : decode cX4_trees 58 = .ok (.lrem, 1) := by decide +kernel
theorem dX4_trees_59 : decode cX4_trees 59 = .ok (.lstore 9, 2) := by decide +kernel
theorem dX4_trees_61 : decode cX4_trees 61 = .ok (.lload 5, 2) := by decide +kernel
theorem dX4_trees_63 : decode cX4_trees 63 = .ok (.lload_n 1, 1) := by decide +kernel
theorem dX4_trees_64 : decode cX4_trees 64 = .ok (.lload 9, 2) := by decide +kernel
theorem dX4_trees_66 : decode cX4_trees 66 = .ok (.lmul, 1) := by decide +kernel
theorem dX4_trees_67 : decode cX4_trees 67 = .ok (.ladd, 1) := by decide +kernel
theorem dX4_trees_68 : decode cX4_trees 68 = .ok (.lreturn, 1) := by decide +kernel
theorem dX4_treesBy_0 : decode cX4_treesBy 0 = .ok (.aload_n 0, 1) := by decide +kernel
theorem dX4_treesBy_1 : decode cX4_treesBy 1 = .ok (.getfield 115, 3) := by decide +kernel
theorem dX4_treesBy_4 : decode cX4_treesBy 4 = .ok (.iconst 1, 1) := by decide +kernel
theorem dX4_treesBy_5 : decode cX4_treesBy 5 = .ok (.isub, 1) := by decide +kernel
theorem dX4_treesBy_6 : decode cX4_treesBy 6 = .ok (.istore_n 3, 1) := by decide +kernel
theorem dX4_treesBy_7 : decode cX4_treesBy 7 = .ok (.iconst 0, 1) := by decide +kernel
theorem dX4_treesBy_8 : decode cX4_treesBy 8 = .ok (.istore 4, 2) := by decide +kernel
theorem dX4_treesBy_10 : decode cX4_treesBy 10 = .ok (.iload 4, 2) := by decide +kernel
theorem dX4_treesBy_12 : decode cX4_treesBy 12 = .ok (.sipush 900, 3) := by decide +kernel
theorem dX4_treesBy_15 : decode cX4_treesBy 15 = .ok (.if_icmp .ge 17, 3) := by decide +kernel
theorem dX4_treesBy_18 : decode cX4_treesBy 18 = .ok (.aload_n 0, 1) := by decide +kernel
theorem dX4_treesBy_19 : decode cX4_treesBy 19 = .ok (.getfield 80, 3) := by decide +kernel
theorem dX4_treesBy_22 : decode cX4_treesBy 22 = .ok (.iload 4, 2) := by decide +kernel
theorem dX4_treesBy_24 : decode cX4_treesBy 24 = .ok (.lconst 0, 1) := by decide +kernel
theorem dX4_treesBy_25 : decode cX4_treesBy 25 = .ok (.lastore, 1) := by decide +kernel
theorem dX4_treesBy_26 : decode cX4_treesBy 26 = .ok (.iinc 4 1, 3) := by decide +kernel
theorem dX4_treesBy_29 : decode cX4_treesBy 29 = .ok (.goto (-19), 3) := by decide +kernel
theorem dX4_treesBy_32 : decode cX4_treesBy 32 = .ok (.iconst 0, 1) := by decide +kernel
theorem dX4_treesBy_33 : decode cX4_treesBy 33 = .ok (.istore 4, 2) := by decide +kernel
theorem dX4_treesBy_35 : decode cX4_treesBy 35 = .ok (.iload 4, 2) := by decide +kernel
theorem dX4_treesBy_37 : decode cX4_treesBy 37 = .ok (.iload_n 3, 1) := by decide +kernel
theorem dX4_treesBy_38 : decode cX4_treesBy 38 = .ok (.if_icmp .ge 93, 3) := by decide +kernel
theorem dX4_treesBy_41 : decode cX4_treesBy 41 = .ok (.iconst 0, 1) := by decide +kernel
theorem dX4_treesBy_42 : decode cX4_treesBy 42 = .ok (.istore 5, 2) := by decide +kernel
theorem dX4_treesBy_44 : decode cX4_treesBy 44 = .ok (.iload 5, 2) := by decide +kernel
theorem dX4_treesBy_46 : decode cX4_treesBy 46 = .ok (.bipush 6, 2) := by decide +kernel
theorem dX4_treesBy_48 : decode cX4_treesBy 48 = .ok (.if_icmp .ge 77, 3) := by decide +kernel
theorem dX4_treesBy_51 : decode cX4_treesBy 51 = .ok (.iload 5, 2) := by decide +kernel
theorem dX4_treesBy_53 : decode cX4_treesBy 53 = .ok (.iconst 2, 1) := by decide +kernel
theorem dX4_treesBy_54 : decode cX4_treesBy 54 = .ok (.idiv, 1) := by decide +kernel
theorem dX4_treesBy_55 : decode cX4_treesBy 55 = .ok (.aload_n 0, 1) := by decide +kernel
theorem dX4_treesBy_56 : decode cX4_treesBy 56 = .ok (.getfield 22, 3) := by decide +kernel
theorem dX4_treesBy_59 : decode cX4_treesBy 59 = .ok (.iload 4, 2) := by decide +kernel
theorem dX4_treesBy_61 : decode cX4_treesBy 61 = .ok (.iaload, 1) := by decide +kernel
theorem dX4_treesBy_62 : decode cX4_treesBy 62 = .ok (.iconst 2, 1) := by decide +kernel
theorem dX4_treesBy_63 : decode cX4_treesBy 63 = .ok (.idiv, 1) := by decide +kernel
theorem dX4_treesBy_64 : decode cX4_treesBy 64 = .ok (.if_icmp .eq 55, 3) := by decide +kernel
theorem dX4_treesBy_67 : decode cX4_treesBy 67 = .ok (.aload_n 0, 1) := by decide +kernel
theorem dX4_treesBy_68 : decode cX4_treesBy 68 = .ok (.iload 4, 2) := by decide +kernel
theorem dX4_treesBy_70 : decode cX4_treesBy 70 = .ok (.iload 5, 2) := by decide +kernel
theorem dX4_treesBy_72 : decode cX4_treesBy 72 = .ok (.invokevirtual 189, 3) := by decide +kernel
theorem dX4_treesBy_75 : decode cX4_treesBy 75 = .ok (.istore 6, 2) := by decide +kernel
theorem dX4_treesBy_77 : decode cX4_treesBy 77 = .ok (.aload_n 0, 1) := by decide +kernel
theorem dX4_treesBy_78 : decode cX4_treesBy 78 = .ok (.getfield 80, 3) := by decide +kernel
theorem dX4_treesBy_81 : decode cX4_treesBy 81 = .ok (.bipush 30, 2) := by decide +kernel
theorem dX4_treesBy_83 : decode cX4_treesBy 83 = .ok (.iload 4, 2) := by decide +kernel
theorem dX4_treesBy_85 : decode cX4_treesBy 85 = .ok (.imul, 1) := by decide +kernel
theorem dX4_treesBy_86 : decode cX4_treesBy 86 = .ok (.iload 4, 2) := by decide +kernel
theorem dX4_treesBy_88 : decode cX4_treesBy 88 = .ok (.iadd, 1) := by decide +kernel
theorem dX4_treesBy_89 : decode cX4_treesBy 89 = .ok (.dup2, 1) := by decide +kernel
theorem dX4_treesBy_90 : decode cX4_treesBy 90 = .ok (.laload, 1) := by decide +kernel
theorem dX4_treesBy_91 : decode cX4_treesBy 91 = .ok (.lconst 1, 1) := by decide +kernel
theorem dX4_treesBy_92 : decode cX4_treesBy 92 = .ok (.ladd, 1) := by decide +kernel
theorem dX4_treesBy_93 : decode cX4_treesBy 93 = .ok (.lastore, 1) := by decide +kernel
theorem dX4_treesBy_94 : decode cX4_treesBy 94 = .ok (.iload 6, 2) := by decide +kernel
theorem dX4_treesBy_96 : decode cX4_treesBy 96 = .ok (.iload_n 3, 1) := by decide +kernel
theorem dX4_treesBy_97 : decode cX4_treesBy 97 = .ok (.if_icmp .ge 22, 3) := by decide +kernel
theorem dX4_treesBy_100 : decode cX4_treesBy 100 = .ok (.aload_n 0, 1) := by decide +kernel
theorem dX4_treesBy_101 : decode cX4_treesBy 101 = .ok (.getfield 80, 3) := by decide +kernel
theorem dX4_treesBy_104 : decode cX4_treesBy 104 = .ok (.bipush 30, 2) := by decide +kernel
theorem dX4_treesBy_106 : decode cX4_treesBy 106 = .ok (.iload 4, 2) := by decide +kernel
theorem dX4_treesBy_108 : decode cX4_treesBy 108 = .ok (.imul, 1) := by decide +kernel
theorem dX4_treesBy_109 : decode cX4_treesBy 109 = .ok (.iload 6, 2) := by decide +kernel
theorem dX4_treesBy_111 : decode cX4_treesBy 111 = .ok (.iadd, 1) := by decide +kernel
theorem dX4_treesBy_112 : decode cX4_treesBy 112 = .ok (.dup2, 1) := by decide +kernel
theorem dX4_treesBy_113 : decode cX4_treesBy 113 = .ok (.laload, 1) := by decide +kernel
theorem dX4_treesBy_114 : decode cX4_treesBy 114 = .ok (.lload_n 1, 1) := by decide +kernel
theorem dX4_treesBy_115 : decode cX4_treesBy 115 = .ok (.lconst 1, 1) := by decide +kernel
theorem dX4_treesBy_116 : decode cX4_treesBy 116 = .ok (.lsub, 1) := by decide +kernel
theorem dX4_treesBy_117 : decode cX4_treesBy 117 = .ok (.ladd, 1) := by decide +kernel
theorem dX4_treesBy_118 : decode cX4_treesBy 118 = .ok (.lastore, 1) := by decide +kernel
theorem dX4_treesBy_119 : decode cX4_treesBy 119 = .ok (.iinc 5 1, 3) := by decide +kernel
theorem dX4_treesBy_122 : decode cX4_treesBy 122 = .ok (.goto (-78), 3) := by decide +kernel
theorem dX4_treesBy_125 : decode cX4_treesBy 125 = .ok (.iinc 4 1, 3) := by decide +kernel
theorem dX4_treesBy_128 : decode cX4_treesBy 128 = .ok (.goto (-93), 3) := by decide +kernel
theorem dX4_treesBy_131 : decode cX4_treesBy 131 = .ok (.lconst 1, 1) := by decide +kernel
theorem dX4_treesBy_132 : decode cX4_treesBy 132 = .ok (.lstore 4, 2) := by decide +kernel
theorem dX4_treesBy_134 : decode cX4_treesBy 134 = .ok (.iconst 0, 1) := by decide +kernel
theorem dX4_treesBy_135 : decode cX4_treesBy 135 = .ok (.istore 6, 2) := by decide +kernel
theorem dX4_treesBy_137 : decode cX4_treesBy 137 = .ok (.iload 6, 2) := by decide +kernel
theorem dX4_treesBy_139 : decode cX4_treesBy 139 = .ok (.iload_n 3, 1) := by decide +kernel
theorem dX4_treesBy_140 : decode cX4_treesBy 140 = .ok (.if_icmp .ge 304, 3) := by decide +kernel
theorem dX4_treesBy_143 : decode cX4_treesBy 143 = .ok (.iload 6, 2) := by decide +kernel
theorem dX4_treesBy_145 : decode cX4_treesBy 145 = .ok (.istore 7, 2) := by decide +kernel
theorem dX4_treesBy_147 : decode cX4_treesBy 147 = .ok (.iload 7, 2) := by decide +kernel
theorem dX4_treesBy_149 : decode cX4_treesBy 149 = .ok (.iload_n 3, 1) := by decide +kernel
theorem dX4_treesBy_150 : decode cX4_treesBy 150 = .ok (.if_icmp .ge 29, 3) := by decide +kernel
theorem dX4_treesBy_153 : decode cX4_treesBy 153 = .ok (.aload_n 0, 1) := by decide +kernel
theorem dX4_treesBy_154 : decode cX4_treesBy 154 = .ok (.getfield 80, 3) := by decide +kernel
theorem dX4_treesBy_157 : decode cX4_treesBy 157 = .ok (.bipush 30, 2) := by decide +kernel
theorem dX4_treesBy_159 : decode cX4_treesBy 159 = .ok (.iload 7, 2) := by decide +kernel
theorem dX4_treesBy_161 : decode cX4_treesBy 161 = .ok (.imul, 1) := by decide +kernel
theorem dX4_treesBy_162 : decode cX4_treesBy 162 = .ok (.iload 6, 2) := by decide +kernel
theorem dX4_treesBy_164 : decode cX4_treesBy 164 = .ok (.iadd, 1) := by decide +kernel
theorem dX4_treesBy_165 : decode cX4_treesBy 165 = .ok (.laload, 1) := by decide +kernel
theorem dX4_treesBy_166 : decode cX4_treesBy 166 = .ok (.lload_n 1, 1) := by decide +kernel
theorem dX4_treesBy_167 : decode cX4_treesBy 167 = .ok (.lrem, 1) := by decide +kernel
theorem dX4_treesBy_168 : decode cX4_treesBy 168 = .ok (.lconst 0, 1) := by decide +kernel
theorem dX4_treesBy_169 : decode cX4_treesBy 169 = .ok (.lcmp, 1) := by decide +kernel
theorem dX4_treesBy_170 : decode cX4_treesBy 170 = .ok (.ifCond .ne 9, 3) := by decide +kernel
theorem dX4_treesBy_173 : decode cX4_treesBy 173 = .ok (.iinc 7 1, 3) := by decide +kernel
theorem dX4_treesBy_176 : decode cX4_treesBy 176 = .ok (.goto (-29), 3) := by decide +kernel
theorem dX4_treesBy_179 : decode cX4_treesBy 179 = .ok (.iload 7, 2) := by decide +kernel
theorem dX4_treesBy_181 : decode cX4_treesBy 181 = .ok (.iload_n 3, 1) := by decide +kernel
theorem dX4_treesBy_182 : decode cX4_treesBy 182 = .ok (.if_icmp .ne 5, 3) := by decide +kernel
theorem dX4_treesBy_185 : decode cX4_treesBy 185 = .ok (.lconst 0, 1) := by decide +kernel
theorem dX4_treesBy_186 : decode cX4_treesBy 186 = .ok (.lreturn, 1) := by decide +kernel
theorem dX4_treesBy_187 : decode cX4_treesBy 187 = .ok (.iconst 0, 1) := by decide +kernel
theorem dX4_treesBy_188 : decode cX4_treesBy 188 = .ok (.istore 8, 2) := by decide +kernel
theorem dX4_treesBy_190 : decode cX4_treesBy 190 = .ok (.iload 8, 2) := by decide +kernel
theorem dX4_treesBy_192 : decode cX4_treesBy 192 = .ok (.iload_n 3, 1) := by decide +kernel
theorem dX4_treesBy_193 : decode cX4_treesBy 193 = .ok (.if_icmp .ge 72, 3) := by decide +kernel
theorem dX4_treesBy_196 : decode cX4_treesBy 196 = .ok (.iload 7, 2) := by decide +kernel
theorem dX4_treesBy_198 : decode cX4_treesBy 198 = .ok (.iload 6, 2) := by decide +kernel
theorem dX4_treesBy_200 : decode cX4_treesBy 200 = .ok (.if_icmp .eq 65, 3) := by decide +kernel
theorem dX4_treesBy_203 : decode cX4_treesBy 203 = .ok (.aload_n 0, 1) := by decide +kernel
theorem dX4_treesBy_204 : decode cX4_treesBy 204 = .ok (.getfield 80, 3) := by decide +kernel
theorem dX4_treesBy_207 : decode cX4_treesBy 207 = .ok (.bipush 30, 2) := by decide +kernel
theorem dX4_treesBy_209 : decode cX4_treesBy 209 = .ok (.iload 7, 2) := by decide +kernel
theorem dX4_treesBy_211 : decode cX4_treesBy 211 = .ok (.imul, 1) := by decide +kernel
theorem dX4_treesBy_212 : decode cX4_treesBy 212 = .ok (.iload 8, 2) := by decide +kernel
theorem dX4_treesBy_214 : decode cX4_treesBy 214 = .ok (.iadd, 1) := by decide +kernel
theorem dX4_treesBy_215 : decode cX4_treesBy 215 = .ok (.laload, 1) := by decide +kernel
theorem dX4_treesBy_216 : decode cX4_treesBy 216 = .ok (.lstore 9, 2) := by decide +kernel
theorem dX4_treesBy_218 : decode cX4_treesBy 218 = .ok (.aload_n 0, 1) := by decide +kernel
theorem dX4_treesBy_219 : decode cX4_treesBy 219 = .ok (.getfield 80, 3) := by decide +kernel
theorem dX4_treesBy_222 : decode cX4_treesBy 222 = .ok (.bipush 30, 2) := by decide +kernel
theorem dX4_treesBy_224 : decode cX4_treesBy 224 = .ok (.iload 7, 2) := by decide +kernel
theorem dX4_treesBy_226 : decode cX4_treesBy 226 = .ok (.imul, 1) := by decide +kernel
theorem dX4_treesBy_227 : decode cX4_treesBy 227 = .ok (.iload 8, 2) := by decide +kernel
theorem dX4_treesBy_229 : decode cX4_treesBy 229 = .ok (.iadd, 1) := by decide +kernel
theorem dX4_treesBy_230 : decode cX4_treesBy 230 = .ok (.aload_n 0, 1) := by decide +kernel
theorem dX4_treesBy_231 : decode cX4_treesBy 231 = .ok (.getfield 80, 3) := by decide +kernel
theorem dX4_treesBy_234 : decode cX4_treesBy 234 = .ok (.bipush 30, 2) := by decide +kernel
theorem dX4_treesBy_236 : decode cX4_treesBy 236 = .ok (.iload 6, 2) := by decide +kernel
theorem dX4_treesBy_238 : decode cX4_treesBy 238 = .ok (.imul, 1) := by decide +kernel
theorem dX4_treesBy_239 : decode cX4_treesBy 239 = .ok (.iload 8, 2) := by decide +kernel
theorem dX4_treesBy_241 : decode cX4_treesBy 241 = .ok (.iadd, 1) := by decide +kernel
theorem dX4_treesBy_242 : decode cX4_treesBy 242 = .ok (.laload, 1) := by decide +kernel
theorem dX4_treesBy_243 : decode cX4_treesBy 243 = .ok (.lastore, 1) := by decide +kernel
theorem dX4_treesBy_244 : decode cX4_treesBy 244 = .ok (.aload_n 0, 1) := by decide +kernel
theorem dX4_treesBy_245 : decode cX4_treesBy 245 = .ok (.getfield 80, 3) := by decide +kernel
theorem dX4_treesBy_248 : decode cX4_treesBy 248 = .ok (.bipush 30, 2) := by decide +kernel
theorem dX4_treesBy_250 : decode cX4_treesBy 250 = .ok (.iload 6, 2) := by decide +kernel
theorem dX4_treesBy_252 : decode cX4_treesBy 252 = .ok (.imul, 1) := by decide +kernel
theorem dX4_treesBy_253 : decode cX4_treesBy 253 = .ok (.iload 8, 2) := by decide +kernel
theorem dX4_treesBy_255 : decode cX4_treesBy 255 = .ok (.iadd, 1) := by decide +kernel
theorem dX4_treesBy_256 : decode cX4_treesBy 256 = .ok (.lload 9, 2) := by decide +kernel
theorem dX4_treesBy_258 : decode cX4_treesBy 258 = .ok (.lastore, 1) := by decide +kernel
theorem dX4_treesBy_259 : decode cX4_treesBy 259 = .ok (.iinc 8 1, 3) := by decide +kernel
theorem dX4_treesBy_262 : decode cX4_treesBy 262 = .ok (.goto (-72), 3) := by decide +kernel
theorem dX4_treesBy_265 : decode cX4_treesBy 265 = .ok (.iload 7, 2) := by decide +kernel
theorem dX4_treesBy_267 : decode cX4_treesBy 267 = .ok (.iload 6, 2) := by decide +kernel
theorem dX4_treesBy_269 : decode cX4_treesBy 269 = .ok (.if_icmp .ne 8, 3) := by decide +kernel
theorem dX4_treesBy_272 : decode cX4_treesBy 272 = .ok (.lload 4, 2) := by decide +kernel
theorem dX4_treesBy_274 : decode cX4_treesBy 274 = .ok (.goto 9, 3) := by decide +kernel
theorem dX4_treesBy_277 : decode cX4_treesBy 277 = .ok (.lload_n 1, 1) := by decide +kernel
theorem dX4_treesBy_278 : decode cX4_treesBy 278 = .ok (.lload 4, 2) := by decide +kernel
theorem dX4_treesBy_280 : decode cX4_treesBy 280 = .ok (.lsub, 1) := by decide +kernel
theorem dX4_treesBy_281 : decode cX4_treesBy 281 = .ok (.lload_n 1, 1) := by decide +kernel
theorem dX4_treesBy_282 : decode cX4_treesBy 282 = .ok (.lrem, 1) := by decide +kernel
theorem dX4_treesBy_283 : decode cX4_treesBy 283 = .ok (.lstore 4, 2) := by decide +kernel
theorem dX4_treesBy_285 : decode cX4_treesBy 285 = .ok (.aload_n 0, 1) := by decide +kernel
theorem dX4_treesBy_286 : decode cX4_treesBy 286 = .ok (.getfield 80, 3) := by decide +kernel
theorem dX4_treesBy_289 : decode cX4_treesBy 289 = .ok (.bipush 30, 2) := by decide +kernel
theorem dX4_treesBy_291 : decode cX4_treesBy 291 = .ok (.iload 6, 2) := by decide +kernel
theorem dX4_treesBy_293 : decode cX4_treesBy 293 = .ok (.imul, 1) := by decide +kernel
theorem dX4_treesBy_294 : decode cX4_treesBy 294 = .ok (.iload 6, 2) := by decide +kernel
theorem dX4_treesBy_296 : decode cX4_treesBy 296 = .ok (.iadd, 1) := by decide +kernel
theorem dX4_treesBy_297 : decode cX4_treesBy 297 = .ok (.laload, 1) := by decide +kernel
theorem dX4_treesBy_298 : decode cX4_treesBy 298 = .ok (.lload_n 1, 1) := by decide +kernel
theorem dX4_treesBy_299 : decode cX4_treesBy 299 = .ok (.lrem, 1) := by decide +kernel
theorem dX4_treesBy_300 : decode cX4_treesBy 300 = .ok (.lstore 8, 2) := by decide +kernel
theorem dX4_treesBy_302 : decode cX4_treesBy 302 = .ok (.lload 4, 2) := by decide +kernel
theorem dX4_treesBy_304 : decode cX4_treesBy 304 = .ok (.lload 8, 2) := by decide +kernel
theorem dX4_treesBy_306 : decode cX4_treesBy 306 = .ok (.lmul, 1) := by decide +kernel
theorem dX4_treesBy_307 : decode cX4_treesBy 307 = .ok (.lload_n 1, 1) := by decide +kernel
theorem dX4_treesBy_308 : decode cX4_treesBy 308 = .ok (.lrem, 1) := by decide +kernel
theorem dX4_treesBy_309 : decode cX4_treesBy 309 = .ok (.lstore 4, 2) := by decide +kernel
theorem dX4_treesBy_311 : decode cX4_treesBy 311 = .ok (.lload 8, 2) := by decide +kernel
theorem dX4_treesBy_313 : decode cX4_treesBy 313 = .ok (.lload_n 1, 1) := by decide +kernel
theorem dX4_treesBy_314 : decode cX4_treesBy 314 = .ok (.ldc2_w 192, 3) := by decide +kernel
theorem dX4_treesBy_317 : decode cX4_treesBy 317 = .ok (.lsub, 1) := by decide +kernel
theorem dX4_treesBy_318 : decode cX4_treesBy 318 = .ok (.lload_n 1, 1) := by decide +kernel
theorem dX4_treesBy_319 : decode cX4_treesBy 319 = .ok (.invokestatic 194, 3) := by decide +kernel
theorem dX4_treesBy_322 : decode cX4_treesBy 322 = .ok (.lstore 10, 2) := by decide +kernel
theorem dX4_treesBy_324 : decode cX4_treesBy 324 = .ok (.iload 6, 2) := by decide +kernel
theorem dX4_treesBy_326 : decode cX4_treesBy 326 = .ok (.iconst 1, 1) := by decide +kernel
theorem dX4_treesBy_327 : decode cX4_treesBy 327 = .ok (.iadd, 1) := by decide +kernel
theorem dX4_treesBy_328 : decode cX4_treesBy 328 = .ok (.istore 12, 2) := by decide +kernel
theorem dX4_treesBy_330 : decode cX4_treesBy 330 = .ok (.iload 12, 2) := by decide +kernel
theorem dX4_treesBy_332 : decode cX4_treesBy 332 = .ok (.iload_n 3, 1) := by decide +kernel
theorem dX4_treesBy_333 : decode cX4_treesBy 333 = .ok (.if_icmp .ge 105, 3) := by decide +kernel
theorem dX4_treesBy_336 : decode cX4_treesBy 336 = .ok (.aload_n 0, 1) := by decide +kernel
theorem dX4_treesBy_337 : decode cX4_treesBy 337 = .ok (.getfield 80, 3) := by decide +kernel
theorem dX4_treesBy_340 : decode cX4_treesBy 340 = .ok (.bipush 30, 2) := by decide +kernel
theorem dX4_treesBy_342 : decode cX4_treesBy 342 = .ok (.iload 12, 2) := by decide +kernel
theorem dX4_treesBy_344 : decode cX4_treesBy 344 = .ok (.imul, 1) := by decide +kernel
theorem dX4_treesBy_345 : decode cX4_treesBy 345 = .ok (.iload 6, 2) := by decide +kernel
theorem dX4_treesBy_347 : decode cX4_treesBy 347 = .ok (.iadd, 1) := by decide +kernel
theorem dX4_treesBy_348 : decode cX4_treesBy 348 = .ok (.laload, 1) := by decide +kernel
theorem dX4_treesBy_349 : decode cX4_treesBy 349 = .ok (.lload_n 1, 1) := by decide +kernel
theorem dX4_treesBy_350 : decode cX4_treesBy 350 = .ok (.lrem, 1) := by decide +kernel
theorem dX4_treesBy_351 : decode cX4_treesBy 351 = .ok (.lload 10, 2) := by decide +kernel
theorem dX4_treesBy_353 : decode cX4_treesBy 353 = .ok (.lmul, 1) := by decide +kernel
theorem dX4_treesBy_354 : decode cX4_treesBy 354 = .ok (.lload_n 1, 1) := by decide +kernel
theorem dX4_treesBy_355 : decode cX4_treesBy 355 = .ok (.lrem, 1) := by decide +kernel
theorem dX4_treesBy_356 : decode cX4_treesBy 356 = .ok (.lstore 13, 2) := by decide +kernel
theorem dX4_treesBy_358 : decode cX4_treesBy 358 = .ok (.iload 6, 2) := by decide +kernel
theorem dX4_treesBy_360 : decode cX4_treesBy 360 = .ok (.istore 15, 2) := by decide +kernel
theorem dX4_treesBy_362 : decode cX4_treesBy 362 = .ok (.iload 15, 2) := by decide +kernel
theorem dX4_treesBy_364 : decode cX4_treesBy 364 = .ok (.iload_n 3, 1) := by decide +kernel
theorem dX4_treesBy_365 : decode cX4_treesBy 365 = .ok (.if_icmp .ge 67, 3) := by decide +kernel
theorem dX4_treesBy_368 : decode cX4_treesBy 368 = .ok (.lload 13, 2) := by decide +kernel
theorem dX4_treesBy_370 : decode cX4_treesBy 370 = .ok (.lconst 0, 1) := by decide +kernel
theorem dX4_treesBy_371 : decode cX4_treesBy 371 = .ok (.lcmp, 1) := by decide +kernel
theorem dX4_treesBy_372 : decode cX4_treesBy 372 = .ok (.ifCond .eq 60, 3) := by decide +kernel
theorem dX4_treesBy_375 : decode cX4_treesBy 375 = .ok (.aload_n 0, 1) := by decide +kernel
theorem dX4_treesBy_376 : decode cX4_treesBy 376 = .ok (.getfield 80, 3) := by decide +kernel
theorem dX4_treesBy_379 : decode cX4_treesBy 379 = .ok (.bipush 30, 2) := by decide +kernel
theorem dX4_treesBy_381 : decode cX4_treesBy 381 = .ok (.iload 12, 2) := by decide +kernel
theorem dX4_treesBy_383 : decode cX4_treesBy 383 = .ok (.imul, 1) := by decide +kernel
theorem dX4_treesBy_384 : decode cX4_treesBy 384 = .ok (.iload 15, 2) := by decide +kernel
theorem dX4_treesBy_386 : decode cX4_treesBy 386 = .ok (.iadd, 1) := by decide +kernel
theorem dX4_treesBy_387 : decode cX4_treesBy 387 = .ok (.aload_n 0, 1) := by decide +kernel
theorem dX4_treesBy_388 : decode cX4_treesBy 388 = .ok (.getfield 80, 3) := by decide +kernel
theorem dX4_treesBy_391 : decode cX4_treesBy 391 = .ok (.bipush 30, 2) := by decide +kernel
theorem dX4_treesBy_393 : decode cX4_treesBy 393 = .ok (.iload 12, 2) := by decide +kernel
theorem dX4_treesBy_395 : decode cX4_treesBy 395 = .ok (.imul, 1) := by decide +kernel
theorem dX4_treesBy_396 : decode cX4_treesBy 396 = .ok (.iload 15, 2) := by decide +kernel
theorem dX4_treesBy_398 : decode cX4_treesBy 398 = .ok (.iadd, 1) := by decide +kernel
theorem dX4_treesBy_399 : decode cX4_treesBy 399 = .ok (.laload, 1) := by decide +kernel
theorem dX4_treesBy_400 : decode cX4_treesBy 400 = .ok (.lload_n 1, 1) := by decide +kernel
theorem dX4_treesBy_401 : decode cX4_treesBy 401 = .ok (.lrem, 1) := by decide +kernel
theorem dX4_treesBy_402 : decode cX4_treesBy 402 = .ok (.lload_n 1, 1) := by decide +kernel
theorem dX4_treesBy_403 : decode cX4_treesBy 403 = .ok (.lload 13, 2) := by decide +kernel
theorem dX4_treesBy_405 : decode cX4_treesBy 405 = .ok (.lsub, 1) := by decide +kernel
theorem dX4_treesBy_406 : decode cX4_treesBy 406 = .ok (.aload_n 0, 1) := by decide +kernel
theorem dX4_treesBy_407 : decode cX4_treesBy 407 = .ok (.getfield 80, 3) := by decide +kernel
theorem dX4_treesBy_410 : decode cX4_treesBy 410 = .ok (.bipush 30, 2) := by decide +kernel
theorem dX4_treesBy_412 : decode cX4_treesBy 412 = .ok (.iload 6, 2) := by decide +kernel
theorem dX4_treesBy_414 : decode cX4_treesBy 414 = .ok (.imul, 1) := by decide +kernel
theorem dX4_treesBy_415 : decode cX4_treesBy 415 = .ok (.iload 15, 2) := by decide +kernel
theorem dX4_treesBy_417 : decode cX4_treesBy 417 = .ok (.iadd, 1) := by decide +kernel
theorem dX4_treesBy_418 : decode cX4_treesBy 418 = .ok (.laload, 1) := by decide +kernel
theorem dX4_treesBy_419 : decode cX4_treesBy 419 = .ok (.lload_n 1, 1) := by decide +kernel
theorem dX4_treesBy_420 : decode cX4_treesBy 420 = .ok (.lrem, 1) := by decide +kernel
theorem dX4_treesBy_421 : decode cX4_treesBy 421 = .ok (.lmul, 1) := by decide +kernel
theorem dX4_treesBy_422 : decode cX4_treesBy 422 = .ok (.ladd, 1) := by decide +kernel
theorem dX4_treesBy_423 : decode cX4_treesBy 423 = .ok (.lload_n 1, 1) := by decide +kernel
theorem dX4_treesBy_424 : decode cX4_treesBy 424 = .ok (.lrem, 1) := by decide +kernel
theorem dX4_treesBy_425 : decode cX4_treesBy 425 = .ok (.lastore, 1) := by decide +kernel
theorem dX4_treesBy_426 : decode cX4_treesBy 426 = .ok (.iinc 15 1, 3) := by decide +kernel
theorem dX4_treesBy_429 : decode cX4_treesBy 429 = .ok (.goto (-67), 3) := by decide +kernel
theorem dX4_treesBy_432 : decode cX4_treesBy 432 = .ok (.iinc 12 1, 3) := by decide +kernel
theorem dX4_treesBy_435 : decode cX4_treesBy 435 = .ok (.goto (-105), 3) := by decide +kernel
theorem dX4_treesBy_438 : decode cX4_treesBy 438 = .ok (.iinc 6 1, 3) := by decide +kernel
theorem dX4_treesBy_441 : decode cX4_treesBy 441 = .ok (.goto (-304), 3) := by decide +kernel
theorem dX4_treesBy_444 : decode cX4_treesBy 444 = .ok (.lload 4, 2) := by decide +kernel
theorem dX4_treesBy_446 : decode cX4_treesBy 446 = .ok (.lreturn, 1) := by decide +kernel
theorem dX4_power_0 : decode cX4_power 0 = .ok (.lconst 1, 1) := by decide +kernel
theorem dX4_power_1 : decode cX4_power 1 = .ok (.lstore 6, 2) := by decide +kernel
theorem dX4_power_3 : decode cX4_power 3 = .ok (.lload_n 0, 1) := by decide +kernel
theorem dX4_power_4 : decode cX4_power 4 = .ok (.lstore 8, 2) := by decide +kernel
theorem dX4_power_6 : decode cX4_power 6 = .ok (.lload_n 2, 1) := by decide +kernel
theorem dX4_power_7 : decode cX4_power 7 = .ok (.lstore 10, 2) := by decide +kernel
theorem dX4_power_9 : decode cX4_power 9 = .ok (.lload 10, 2) := by decide +kernel
theorem dX4_power_11 : decode cX4_power 11 = .ok (.lconst 0, 1) := by decide +kernel
theorem dX4_power_12 : decode cX4_power 12 = .ok (.lcmp, 1) := by decide +kernel
theorem dX4_power_13 : decode cX4_power 13 = .ok (.ifCond .le 46, 3) := by decide +kernel
theorem dX4_power_16 : decode cX4_power 16 = .ok (.lload 10, 2) := by decide +kernel
theorem dX4_power_18 : decode cX4_power 18 = .ok (.lconst 1, 1) := by decide +kernel
theorem dX4_power_19 : decode cX4_power 19 = .ok (.land, 1) := by decide +kernel
theorem dX4_power_20 : decode cX4_power 20 = .ok (.lconst 1, 1) := by decide +kernel
theorem dX4_power_21 : decode cX4_power 21 = .ok (.lcmp, 1) := by decide +kernel
theorem dX4_power_22 : decode cX4_power 22 = .ok (.ifCond .ne 14, 3) := by decide +kernel
theorem dX4_power_25 : decode cX4_power 25 = .ok (.lload 6, 2) := by decide +kernel
theorem dX4_power_27 : decode cX4_power 27 = .ok (.lload 8, 2) := by decide +kernel
theorem dX4_power_29 : decode cX4_power 29 = .ok (.lmul, 1) := by decide +kernel
theorem dX4_power_30 : decode cX4_power 30 = .ok (.lload 4, 2) := by decide +kernel
theorem dX4_power_32 : decode cX4_power 32 = .ok (.lrem, 1) := by decide +kernel
theorem dX4_power_33 : decode cX4_power 33 = .ok (.goto 5, 3) := by decide +kernel
theorem dX4_power_36 : decode cX4_power 36 = .ok (.lload 6, 2) := by decide +kernel
theorem dX4_power_38 : decode cX4_power 38 = .ok (.lstore 6, 2) := by decide +kernel
theorem dX4_power_40 : decode cX4_power 40 = .ok (.lload 8, 2) := by decide +kernel
theorem dX4_power_42 : decode cX4_power 42 = .ok (.lload 8, 2) := by decide +kernel
theorem dX4_power_44 : decode cX4_power 44 = .ok (.lmul, 1) := by decide +kernel
theorem dX4_power_45 : decode cX4_power 45 = .ok (.lload 4, 2) := by decide +kernel
theorem dX4_power_47 : decode cX4_power 47 = .ok (.lrem, 1) := by decide +kernel
theorem dX4_power_48 : decode cX4_power 48 = .ok (.lstore 8, 2) := by decide +kernel
theorem dX4_power_50 : decode cX4_power 50 = .ok (.lload 10, 2) := by decide +kernel
theorem dX4_power_52 : decode cX4_power 52 = .ok (.iconst 1, 1) := by decide +kernel
theorem dX4_power_53 : decode cX4_power 53 = .ok (.lshr, 1) := by decide +kernel
theorem dX4_power_54 : decode cX4_power 54 = .ok (.lstore 10, 2) := by decide +kernel
theorem dX4_power_56 : decode cX4_power 56 = .ok (.goto (-47), 3) := by decide +kernel
theorem dX4_power_59 : decode cX4_power 59 = .ok (.lload 6, 2) := by decide +kernel
theorem dX4_power_61 : decode cX4_power 61 = .ok (.lreturn, 1) := by decide +kernel
theorem dX4_lay_0 : decode cX4_lay 0 = .ok (.aload_n 0, 1) := by decide +kernel
theorem dX4_lay_1 : decode cX4_lay 1 = .ok (.iload_n 1, 1) := by decide +kernel
theorem dX4_lay_2 : decode cX4_lay 2 = .ok (.invokevirtual 185, 3) := by decide +kernel
theorem dX4_lay_5 : decode cX4_lay 5 = .ok (.ifCond .ne 5, 3) := by decide +kernel
theorem dX4_lay_8 : decode cX4_lay 8 = .ok (.iconst (-1), 1) := by decide +kernel
theorem dX4_lay_9 : decode cX4_lay 9 = .ok (.ireturn, 1) := by decide +kernel
theorem dX4_lay_10 : decode cX4_lay 10 = .ok (.iconst 0, 1) := by decide +kernel
theorem dX4_lay_11 : decode cX4_lay 11 = .ok (.istore_n 2, 1) := by decide +kernel
theorem dX4_lay_12 : decode cX4_lay 12 = .ok (.iload_n 2, 1) := by decide +kernel
theorem dX4_lay_13 : decode cX4_lay 13 = .ok (.bipush 30, 2) := by decide +kernel
theorem dX4_lay_15 : decode cX4_lay 15 = .ok (.if_icmp .ge 16, 3) := by decide +kernel
theorem dX4_lay_18 : decode cX4_lay 18 = .ok (.aload_n 0, 1) := by decide +kernel
theorem dX4_lay_19 : decode cX4_lay 19 = .ok (.getfield 25, 3) := by decide +kernel
theorem dX4_lay_22 : decode cX4_lay 22 = .ok (.iload_n 2, 1) := by decide +kernel
theorem dX4_lay_23 : decode cX4_lay 23 = .ok (.iconst 0, 1) := by decide +kernel
theorem dX4_lay_24 : decode cX4_lay 24 = .ok (.bastore, 1) := by decide +kernel
theorem dX4_lay_25 : decode cX4_lay 25 = .ok (.iinc 2 1, 3) := by decide +kernel
theorem dX4_lay_28 : decode cX4_lay 28 = .ok (.goto (-16), 3) := by decide +kernel
theorem dX4_lay_31 : decode cX4_lay 31 = .ok (.aload_n 0, 1) := by decide +kernel
theorem dX4_lay_32 : decode cX4_lay 32 = .ok (.getfield 25, 3) := by decide +kernel
theorem dX4_lay_35 : decode cX4_lay 35 = .ok (.iload_n 1, 1) := by decide +kernel
theorem dX4_lay_36 : decode cX4_lay 36 = .ok (.iconst 1, 1) := by decide +kernel
theorem dX4_lay_37 : decode cX4_lay 37 = .ok (.bastore, 1) := by decide +kernel
theorem dX4_lay_38 : decode cX4_lay 38 = .ok (.aload_n 0, 1) := by decide +kernel
theorem dX4_lay_39 : decode cX4_lay 39 = .ok (.getfield 29, 3) := by decide +kernel
theorem dX4_lay_42 : decode cX4_lay 42 = .ok (.iload_n 1, 1) := by decide +kernel
theorem dX4_lay_43 : decode cX4_lay 43 = .ok (.iconst 0, 1) := by decide +kernel
theorem dX4_lay_44 : decode cX4_lay 44 = .ok (.iastore, 1) := by decide +kernel
theorem dX4_lay_45 : decode cX4_lay 45 = .ok (.aload_n 0, 1) := by decide +kernel
theorem dX4_lay_46 : decode cX4_lay 46 = .ok (.getfield 32, 3) := by decide +kernel
theorem dX4_lay_49 : decode cX4_lay 49 = .ok (.iload_n 1, 1) := by decide +kernel
theorem dX4_lay_50 : decode cX4_lay 50 = .ok (.iconst 0, 1) := by decide +kernel
theorem dX4_lay_51 : decode cX4_lay 51 = .ok (.iastore, 1) := by decide +kernel
theorem dX4_lay_52 : decode cX4_lay 52 = .ok (.aload_n 0, 1) := by decide +kernel
theorem dX4_lay_53 : decode cX4_lay 53 = .ok (.getfield 35, 3) := by decide +kernel
theorem dX4_lay_56 : decode cX4_lay 56 = .ok (.iload_n 1, 1) := by decide +kernel
theorem dX4_lay_57 : decode cX4_lay 57 = .ok (.aload_n 0, 1) := by decide +kernel
theorem dX4_lay_58 : decode cX4_lay 58 = .ok (.getfield 22, 3) := by decide +kernel
theorem dX4_lay_61 : decode cX4_lay 61 = .ok (.iload_n 1, 1) := by decide +kernel
theorem dX4_lay_62 : decode cX4_lay 62 = .ok (.iaload, 1) := by decide +kernel
theorem dX4_lay_63 : decode cX4_lay 63 = .ok (.invokestatic 150, 3) := by decide +kernel
theorem dX4_lay_66 : decode cX4_lay 66 = .ok (.iastore, 1) := by decide +kernel
theorem dX4_lay_67 : decode cX4_lay 67 = .ok (.aload_n 0, 1) := by decide +kernel
theorem dX4_lay_68 : decode cX4_lay 68 = .ok (.getfield 38, 3) := by decide +kernel
theorem dX4_lay_71 : decode cX4_lay 71 = .ok (.iload_n 1, 1) := by decide +kernel
theorem dX4_lay_72 : decode cX4_lay 72 = .ok (.aload_n 0, 1) := by decide +kernel
theorem dX4_lay_73 : decode cX4_lay 73 = .ok (.getfield 22, 3) := by decide +kernel
theorem dX4_lay_76 : decode cX4_lay 76 = .ok (.iload_n 1, 1) := by decide +kernel
theorem dX4_lay_77 : decode cX4_lay 77 = .ok (.iaload, 1) := by decide +kernel
theorem dX4_lay_78 : decode cX4_lay 78 = .ok (.invokestatic 154, 3) := by decide +kernel
theorem dX4_lay_81 : decode cX4_lay 81 = .ok (.iastore, 1) := by decide +kernel
theorem dX4_lay_82 : decode cX4_lay 82 = .ok (.aload_n 0, 1) := by decide +kernel
theorem dX4_lay_83 : decode cX4_lay 83 = .ok (.iconst 1, 1) := by decide +kernel
theorem dX4_lay_84 : decode cX4_lay 84 = .ok (.putfield 111, 3) := by decide +kernel
theorem dX4_lay_87 : decode cX4_lay 87 = .ok (.iconst 0, 1) := by decide +kernel
theorem dX4_lay_88 : decode cX4_lay 88 = .ok (.ireturn, 1) := by decide +kernel
theorem dX4_grow_0 : decode cX4_grow 0 = .ok (.aload_n 0, 1) := by decide +kernel
theorem dX4_grow_1 : decode cX4_grow 1 = .ok (.iload_n 1, 1) := by decide +kernel
theorem dX4_grow_2 : decode cX4_grow 2 = .ok (.invokevirtual 185, 3) := by decide +kernel
theorem dX4_grow_5 : decode cX4_grow 5 = .ok (.ifCond .eq 12, 3) := by decide +kernel
theorem dX4_grow_8 : decode cX4_grow 8 = .ok (.iload_n 2, 1) := by decide +kernel
theorem dX4_grow_9 : decode cX4_grow 9 = .ok (.ifCond .lt 8, 3) := by decide +kernel
theorem dX4_grow_12 : decode cX4_grow 12 = .ok (.iload_n 2, 1) := by decide +kernel
theorem dX4_grow_13 : decode cX4_grow 13 = .ok (.iconst 3, 1) := by decide +kernel
theorem dX4_grow_14 : decode cX4_grow 14 = .ok (.if_icmp .le 5, 3) := by decide +kernel
theorem dX4_grow_17 : decode cX4_grow 17 = .ok (.iconst (-1), 1) := by decide +kernel
theorem dX4_grow_18 : decode cX4_grow 18 = .ok (.ireturn, 1) := by decide +kernel
theorem dX4_grow_19 : decode cX4_grow 19 = .ok (.aload_n 0, 1) := by decide +kernel
theorem dX4_grow_20 : decode cX4_grow 20 = .ok (.getfield 25, 3) := by decide +kernel
theorem dX4_grow_23 : decode cX4_grow 23 = .ok (.iload_n 1, 1) := by decide +kernel
theorem dX4_grow_24 : decode cX4_grow 24 = .ok (.baload, 1) := by decide +kernel
theorem dX4_grow_25 : decode cX4_grow 25 = .ok (.ifCond .ne 6, 3) := by decide +kernel
theorem dX4_grow_28 : decode cX4_grow 28 = .ok (.bipush (-2), 2) := by decide +kernel
theorem dX4_grow_30 : decode cX4_grow 30 = .ok (.ireturn, 1) := by decide +kernel
theorem dX4_grow_31 : decode cX4_grow 31 = .ok (.aload_n 0, 1) := by decide +kernel
theorem dX4_grow_32 : decode cX4_grow 32 = .ok (.iload_n 1, 1) := by decide +kernel
theorem dX4_grow_33 : decode cX4_grow 33 = .ok (.iload_n 2, 1) := by decide +kernel
theorem dX4_grow_34 : decode cX4_grow 34 = .ok (.aload_n 0, 1) := by decide +kernel
theorem dX4_grow_35 : decode cX4_grow 35 = .ok (.getfield 35, 3) := by decide +kernel
theorem dX4_grow_38 : decode cX4_grow 38 = .ok (.iload_n 1, 1) := by decide +kernel
theorem dX4_grow_39 : decode cX4_grow 39 = .ok (.iaload, 1) := by decide +kernel
theorem dX4_grow_40 : decode cX4_grow 40 = .ok (.aload_n 0, 1) := by decide +kernel
theorem dX4_grow_41 : decode cX4_grow 41 = .ok (.getfield 38, 3) := by decide +kernel
theorem dX4_grow_44 : decode cX4_grow 44 = .ok (.iload_n 1, 1) := by decide +kernel
theorem dX4_grow_45 : decode cX4_grow 45 = .ok (.iaload, 1) := by decide +kernel
theorem dX4_grow_46 : decode cX4_grow 46 = .ok (.invokestatic 176, 3) := by decide +kernel
theorem dX4_grow_49 : decode cX4_grow 49 = .ok (.invokevirtual 189, 3) := by decide +kernel
theorem dX4_grow_52 : decode cX4_grow 52 = .ok (.istore_n 3, 1) := by decide +kernel
theorem dX4_grow_53 : decode cX4_grow 53 = .ok (.aload_n 0, 1) := by decide +kernel
theorem dX4_grow_54 : decode cX4_grow 54 = .ok (.getfield 25, 3) := by decide +kernel
theorem dX4_grow_57 : decode cX4_grow 57 = .ok (.iload_n 3, 1) := by decide +kernel
theorem dX4_grow_58 : decode cX4_grow 58 = .ok (.baload, 1) := by decide +kernel
theorem dX4_grow_59 : decode cX4_grow 59 = .ok (.ifCond .eq 6, 3) := by decide +kernel
theorem dX4_grow_62 : decode cX4_grow 62 = .ok (.bipush (-3), 2) := by decide +kernel
theorem dX4_grow_64 : decode cX4_grow 64 = .ok (.ireturn, 1) := by decide +kernel
theorem dX4_grow_65 : decode cX4_grow 65 = .ok (.aload_n 0, 1) := by decide +kernel
theorem dX4_grow_66 : decode cX4_grow 66 = .ok (.getfield 29, 3) := by decide +kernel
theorem dX4_grow_69 : decode cX4_grow 69 = .ok (.iload_n 1, 1) := by decide +kernel
theorem dX4_grow_70 : decode cX4_grow 70 = .ok (.iaload, 1) := by decide +kernel
theorem dX4_grow_71 : decode cX4_grow 71 = .ok (.iload_n 2, 1) := by decide +kernel
theorem dX4_grow_72 : decode cX4_grow 72 = .ok (.invokestatic 208, 3) := by decide +kernel
theorem dX4_grow_75 : decode cX4_grow 75 = .ok (.iadd, 1) := by decide +kernel
theorem dX4_grow_76 : decode cX4_grow 76 = .ok (.istore 4, 2) := by decide +kernel
theorem dX4_grow_78 : decode cX4_grow 78 = .ok (.aload_n 0, 1) := by decide +kernel
theorem dX4_grow_79 : decode cX4_grow 79 = .ok (.getfield 32, 3) := by decide +kernel
theorem dX4_grow_82 : decode cX4_grow 82 = .ok (.iload_n 1, 1) := by decide +kernel
theorem dX4_grow_83 : decode cX4_grow 83 = .ok (.iaload, 1) := by decide +kernel
theorem dX4_grow_84 : decode cX4_grow 84 = .ok (.iload_n 2, 1) := by decide +kernel
theorem dX4_grow_85 : decode cX4_grow 85 = .ok (.invokestatic 211, 3) := by decide +kernel
theorem dX4_grow_88 : decode cX4_grow 88 = .ok (.iadd, 1) := by decide +kernel
theorem dX4_grow_89 : decode cX4_grow 89 = .ok (.istore 5, 2) := by decide +kernel
theorem dX4_grow_91 : decode cX4_grow 91 = .ok (.iconst 0, 1) := by decide +kernel
theorem dX4_grow_92 : decode cX4_grow 92 = .ok (.istore 6, 2) := by decide +kernel
theorem dX4_grow_94 : decode cX4_grow 94 = .ok (.iload 6, 2) := by decide +kernel
theorem dX4_grow_96 : decode cX4_grow 96 = .ok (.aload_n 0, 1) := by decide +kernel
theorem dX4_grow_97 : decode cX4_grow 97 = .ok (.getfield 115, 3) := by decide +kernel
theorem dX4_grow_100 : decode cX4_grow 100 = .ok (.if_icmp .ge 49, 3) := by decide +kernel
theorem dX4_grow_103 : decode cX4_grow 103 = .ok (.aload_n 0, 1) := by decide +kernel
theorem dX4_grow_104 : decode cX4_grow 104 = .ok (.getfield 25, 3) := by decide +kernel
theorem dX4_grow_107 : decode cX4_grow 107 = .ok (.iload 6, 2) := by decide +kernel
theorem dX4_grow_109 : decode cX4_grow 109 = .ok (.baload, 1) := by decide +kernel
theorem dX4_grow_110 : decode cX4_grow 110 = .ok (.ifCond .eq 33, 3) := by decide +kernel
theorem dX4_grow_113 : decode cX4_grow 113 = .ok (.aload_n 0, 1) := by decide +kernel
theorem dX4_grow_114 : decode cX4_grow 114 = .ok (.getfield 29, 3) := by decide +kernel
theorem dX4_grow_117 : decode cX4_grow 117 = .ok (.iload 6, 2) := by decide +kernel
theorem dX4_grow_119 : decode cX4_grow 119 = .ok (.iaload, 1) := by decide +kernel
theorem dX4_grow_120 : decode cX4_grow 120 = .ok (.iload 4, 2) := by decide +kernel
theorem dX4_grow_122 : decode cX4_grow 122 = .ok (.if_icmp .ne 21, 3) := by decide +kernel
theorem dX4_grow_125 : decode cX4_grow 125 = .ok (.aload_n 0, 1) := by decide +kernel
theorem dX4_grow_126 : decode cX4_grow 126 = .ok (.getfield 32, 3) := by decide +kernel
theorem dX4_grow_129 : decode cX4_grow 129 = .ok (.iload 6, 2) := by decide +kernel
theorem dX4_grow_131 : decode cX4_grow 131 = .ok (.iaload, 1) := by decide +kernel
theorem dX4_grow_132 : decode cX4_grow 132 = .ok (.iload 5, 2) := by decide +kernel
theorem dX4_grow_134 : decode cX4_grow 134 = .ok (.if_icmp .ne 9, 3) := by decide +kernel
theorem dX4_grow_137 : decode cX4_grow 137 = .ok (.bipush (-10), 2) := by decide +kernel
theorem dX4_grow_139 : decode cX4_grow 139 = .ok (.iload 6, 2) := by decide +kernel
theorem dX4_grow_141 : decode cX4_grow 141 = .ok (.isub, 1) := by decide +kernel
theorem dX4_grow_142 : decode cX4_grow 142 = .ok (.ireturn, 1) := by decide +kernel
theorem dX4_grow_143 : decode cX4_grow 143 = .ok (.iinc 6 1, 3) := by decide +kernel
theorem dX4_grow_146 : decode cX4_grow 146 = .ok (.goto (-52), 3) := by decide +kernel
theorem dX4_grow_149 : decode cX4_grow 149 = .ok (.aload_n 0, 1) := by decide +kernel
theorem dX4_grow_150 : decode cX4_grow 150 = .ok (.getfield 25, 3) := by decide +kernel
theorem dX4_grow_153 : decode cX4_grow 153 = .ok (.iload_n 3, 1) := by decide +kernel
theorem dX4_grow_154 : decode cX4_grow 154 = .ok (.iconst 1, 1) := by decide +kernel
theorem dX4_grow_155 : decode cX4_grow 155 = .ok (.bastore, 1) := by decide +kernel
theorem dX4_grow_156 : decode cX4_grow 156 = .ok (.aload_n 0, 1) := by decide +kernel
theorem dX4_grow_157 : decode cX4_grow 157 = .ok (.getfield 29, 3) := by decide +kernel
theorem dX4_grow_160 : decode cX4_grow 160 = .ok (.iload_n 3, 1) := by decide +kernel
theorem dX4_grow_161 : decode cX4_grow 161 = .ok (.iload 4, 2) := by decide +kernel
theorem dX4_grow_163 : decode cX4_grow 163 = .ok (.iastore, 1) := by decide +kernel
theorem dX4_grow_164 : decode cX4_grow 164 = .ok (.aload_n 0, 1) := by decide +kernel
theorem dX4_grow_165 : decode cX4_grow 165 = .ok (.getfield 32, 3) := by decide +kernel
theorem dX4_grow_168 : decode cX4_grow 168 = .ok (.iload_n 3, 1) := by decide +kernel
theorem dX4_grow_169 : decode cX4_grow 169 = .ok (.iload 5, 2) := by decide +kernel
theorem dX4_grow_171 : decode cX4_grow 171 = .ok (.iastore, 1) := by decide +kernel
theorem dX4_grow_172 : decode cX4_grow 172 = .ok (.aload_n 0, 1) := by decide +kernel
theorem dX4_grow_173 : decode cX4_grow 173 = .ok (.getfield 35, 3) := by decide +kernel
theorem dX4_grow_176 : decode cX4_grow 176 = .ok (.iload_n 3, 1) := by decide +kernel
theorem dX4_grow_177 : decode cX4_grow 177 = .ok (.aload_n 0, 1) := by decide +kernel
theorem dX4_grow_178 : decode cX4_grow 178 = .ok (.iload_n 1, 1) := by decide +kernel
theorem dX4_grow_179 : decode cX4_grow 179 = .ok (.iload_n 2, 1) := by decide +kernel
theorem dX4_grow_180 : decode cX4_grow 180 = .ok (.aload_n 0, 1) := by decide +kernel
theorem dX4_grow_181 : decode cX4_grow 181 = .ok (.getfield 35, 3) := by decide +kernel
theorem dX4_grow_184 : decode cX4_grow 184 = .ok (.iload_n 1, 1) := by decide +kernel
theorem dX4_grow_185 : decode cX4_grow 185 = .ok (.iaload, 1) := by decide +kernel
theorem dX4_grow_186 : decode cX4_grow 186 = .ok (.aload_n 0, 1) := by decide +kernel
theorem dX4_grow_187 : decode cX4_grow 187 = .ok (.getfield 38, 3) := by decide +kernel
theorem dX4_grow_190 : decode cX4_grow 190 = .ok (.iload_n 1, 1) := by decide +kernel
theorem dX4_grow_191 : decode cX4_grow 191 = .ok (.iaload, 1) := by decide +kernel
theorem dX4_grow_192 : decode cX4_grow 192 = .ok (.invokevirtual 214, 3) := by decide +kernel
theorem dX4_grow_195 : decode cX4_grow 195 = .ok (.iastore, 1) := by decide +kernel
theorem dX4_grow_196 : decode cX4_grow 196 = .ok (.aload_n 0, 1) := by decide +kernel
theorem dX4_grow_197 : decode cX4_grow 197 = .ok (.getfield 38, 3) := by decide +kernel
theorem dX4_grow_200 : decode cX4_grow 200 = .ok (.iload_n 3, 1) := by decide +kernel
theorem dX4_grow_201 : decode cX4_grow 201 = .ok (.aload_n 0, 1) := by decide +kernel
theorem dX4_grow_202 : decode cX4_grow 202 = .ok (.iload_n 1, 1) := by decide +kernel
theorem dX4_grow_203 : decode cX4_grow 203 = .ok (.iload_n 2, 1) := by decide +kernel
theorem dX4_grow_204 : decode cX4_grow 204 = .ok (.aload_n 0, 1) := by decide +kernel
theorem dX4_grow_205 : decode cX4_grow 205 = .ok (.getfield 35, 3) := by decide +kernel
theorem dX4_grow_208 : decode cX4_grow 208 = .ok (.iload_n 1, 1) := by decide +kernel
theorem dX4_grow_209 : decode cX4_grow 209 = .ok (.iaload, 1) := by decide +kernel
theorem dX4_grow_210 : decode cX4_grow 210 = .ok (.aload_n 0, 1) := by decide +kernel
theorem dX4_grow_211 : decode cX4_grow 211 = .ok (.getfield 38, 3) := by decide +kernel
theorem dX4_grow_214 : decode cX4_grow 214 = .ok (.iload_n 1, 1) := by decide +kernel
theorem dX4_grow_215 : decode cX4_grow 215 = .ok (.iaload, 1) := by decide +kernel
theorem dX4_grow_216 : decode cX4_grow 216 = .ok (.invokevirtual 218, 3) := by decide +kernel
theorem dX4_grow_219 : decode cX4_grow 219 = .ok (.iastore, 1) := by decide +kernel
theorem dX4_grow_220 : decode cX4_grow 220 = .ok (.aload_n 0, 1) := by decide +kernel
theorem dX4_grow_221 : decode cX4_grow 221 = .ok (.dup, 1) := by decide +kernel
theorem dX4_grow_222 : decode cX4_grow 222 = .ok (.getfield 111, 3) := by decide +kernel
theorem dX4_grow_225 : decode cX4_grow 225 = .ok (.iconst 1, 1) := by decide +kernel
theorem dX4_grow_226 : decode cX4_grow 226 = .ok (.iadd, 1) := by decide +kernel
theorem dX4_grow_227 : decode cX4_grow 227 = .ok (.putfield 111, 3) := by decide +kernel
theorem dX4_grow_230 : decode cX4_grow 230 = .ok (.iload_n 3, 1) := by decide +kernel
theorem dX4_grow_231 : decode cX4_grow 231 = .ok (.ireturn, 1) := by decide +kernel
theorem dX4_sideOf_0 : decode cX4_sideOf 0 = .ok (.iload_n 0, 1) := by decide +kernel
theorem dX4_sideOf_1 : decode cX4_sideOf 1 = .ok (.ifCond .ne 7, 3) := by decide +kernel
theorem dX4_sideOf_4 : decode cX4_sideOf 4 = .ok (.iload_n 1, 1) := by decide +kernel
end
section
set_option maxRecDepth 100000
theorem dX4_sideOf_5 : decode cX4_sideOf 5 = .ok (.goto 26, 3) := by decide +kernel
theorem dX4_sideOf_8 : decode cX4_sideOf 8 = .ok (.iload_n 0, 1) := by decide +kernel
theorem dX4_sideOf_9 : decode cX4_sideOf 9 = .ok (.iconst 1, 1) := by decide +kernel
theorem dX4_sideOf_10 : decode cX4_sideOf 10 = .ok (.if_icmp .ne 7, 3) := by decide +kernel
theorem dX4_sideOf_13 : decode cX4_sideOf 13 = .ok (.iload_n 2, 1) := by decide +kernel
theorem dX4_sideOf_14 : decode cX4_sideOf 14 = .ok (.goto 17, 3) := by decide +kernel
theorem dX4_sideOf_17 : decode cX4_sideOf 17 = .ok (.iload_n 0, 1) := by decide +kernel
theorem dX4_sideOf_18 : decode cX4_sideOf 18 = .ok (.iconst 2, 1) := by decide +kernel
theorem dX4_sideOf_19 : decode cX4_sideOf 19 = .ok (.if_icmp .ne 9, 3) := by decide +kernel
theorem dX4_sideOf_22 : decode cX4_sideOf 22 = .ok (.iload_n 1, 1) := by decide +kernel
theorem dX4_sideOf_23 : decode cX4_sideOf 23 = .ok (.iconst 1, 1) := by decide +kernel
theorem dX4_sideOf_24 : decode cX4_sideOf 24 = .ok (.ixor, 1) := by decide +kernel
theorem dX4_sideOf_25 : decode cX4_sideOf 25 = .ok (.goto 6, 3) := by decide +kernel
theorem dX4_sideOf_28 : decode cX4_sideOf 28 = .ok (.iload_n 2, 1) := by decide +kernel
theorem dX4_sideOf_29 : decode cX4_sideOf 29 = .ok (.iconst 1, 1) := by decide +kernel
theorem dX4_sideOf_30 : decode cX4_sideOf 30 = .ok (.ixor, 1) := by decide +kernel
theorem dX4_sideOf_31 : decode cX4_sideOf 31 = .ok (.ireturn, 1) := by decide +kernel
theorem dX4_sideX_0 : decode cX4_sideX 0 = .ok (.iload_n 0, 1) := by decide +kernel
theorem dX4_sideX_1 : decode cX4_sideX 1 = .ok (.ifCond .ne 7, 3) := by decide +kernel
theorem dX4_sideX_4 : decode cX4_sideX 4 = .ok (.iconst 1, 1) := by decide +kernel
theorem dX4_sideX_5 : decode cX4_sideX 5 = .ok (.goto 13, 3) := by decide +kernel
theorem dX4_sideX_8 : decode cX4_sideX 8 = .ok (.iload_n 0, 1) := by decide +kernel
theorem dX4_sideX_9 : decode cX4_sideX 9 = .ok (.iconst 2, 1) := by decide +kernel
theorem dX4_sideX_10 : decode cX4_sideX 10 = .ok (.if_icmp .ne 7, 3) := by decide +kernel
theorem dX4_sideX_13 : decode cX4_sideX 13 = .ok (.iconst (-1), 1) := by decide +kernel
theorem dX4_sideX_14 : decode cX4_sideX 14 = .ok (.goto 4, 3) := by decide +kernel
theorem dX4_sideX_17 : decode cX4_sideX 17 = .ok (.iconst 0, 1) := by decide +kernel
theorem dX4_sideX_18 : decode cX4_sideX 18 = .ok (.ireturn, 1) := by decide +kernel
theorem dX4_sideY_0 : decode cX4_sideY 0 = .ok (.iload_n 0, 1) := by decide +kernel
theorem dX4_sideY_1 : decode cX4_sideY 1 = .ok (.iconst 1, 1) := by decide +kernel
theorem dX4_sideY_2 : decode cX4_sideY 2 = .ok (.if_icmp .ne 7, 3) := by decide +kernel
theorem dX4_sideY_5 : decode cX4_sideY 5 = .ok (.iconst 1, 1) := by decide +kernel
theorem dX4_sideY_6 : decode cX4_sideY 6 = .ok (.goto 13, 3) := by decide +kernel
theorem dX4_sideY_9 : decode cX4_sideY 9 = .ok (.iload_n 0, 1) := by decide +kernel
theorem dX4_sideY_10 : decode cX4_sideY 10 = .ok (.iconst 3, 1) := by decide +kernel
theorem dX4_sideY_11 : decode cX4_sideY 11 = .ok (.if_icmp .ne 7, 3) := by decide +kernel
theorem dX4_sideY_14 : decode cX4_sideY 14 = .ok (.iconst (-1), 1) := by decide +kernel
theorem dX4_sideY_15 : decode cX4_sideY 15 = .ok (.goto 4, 3) := by decide +kernel
theorem dX4_sideY_18 : decode cX4_sideY 18 = .ok (.iconst 0, 1) := by decide +kernel
theorem dX4_sideY_19 : decode cX4_sideY 19 = .ok (.ireturn, 1) := by decide +kernel
theorem dX4_nextRight_0 : decode cX4_nextRight 0 = .ok (.aload_n 0, 1) := by decide +kernel
theorem dX4_nextRight_1 : decode cX4_nextRight 1 = .ok (.iload_n 1, 1) := by decide +kernel
theorem dX4_nextRight_2 : decode cX4_nextRight 2 = .ok (.iload_n 2, 1) := by decide +kernel
theorem dX4_nextRight_3 : decode cX4_nextRight 3 = .ok (.iload_n 3, 1) := by decide +kernel
theorem dX4_nextRight_4 : decode cX4_nextRight 4 = .ok (.iload 4, 2) := by decide +kernel
theorem dX4_nextRight_6 : decode cX4_nextRight 6 = .ok (.invokestatic 176, 3) := by decide +kernel
theorem dX4_nextRight_9 : decode cX4_nextRight 9 = .ok (.invokevirtual 179, 3) := by decide +kernel
theorem dX4_nextRight_12 : decode cX4_nextRight 12 = .ok (.istore 5, 2) := by decide +kernel
theorem dX4_nextRight_14 : decode cX4_nextRight 14 = .ok (.iload_n 2, 1) := by decide +kernel
theorem dX4_nextRight_15 : decode cX4_nextRight 15 = .ok (.ifCond .ne 8, 3) := by decide +kernel
theorem dX4_nextRight_18 : decode cX4_nextRight 18 = .ok (.iload 5, 2) := by decide +kernel
theorem dX4_nextRight_20 : decode cX4_nextRight 20 = .ok (.goto 16, 3) := by decide +kernel
theorem dX4_nextRight_23 : decode cX4_nextRight 23 = .ok (.iload_n 2, 1) := by decide +kernel
theorem dX4_nextRight_24 : decode cX4_nextRight 24 = .ok (.iconst 2, 1) := by decide +kernel
theorem dX4_nextRight_25 : decode cX4_nextRight 25 = .ok (.if_icmp .ne 10, 3) := by decide +kernel
theorem dX4_nextRight_28 : decode cX4_nextRight 28 = .ok (.iload 5, 2) := by decide +kernel
theorem dX4_nextRight_30 : decode cX4_nextRight 30 = .ok (.iconst 1, 1) := by decide +kernel
theorem dX4_nextRight_31 : decode cX4_nextRight 31 = .ok (.ixor, 1) := by decide +kernel
theorem dX4_nextRight_32 : decode cX4_nextRight 32 = .ok (.goto 4, 3) := by decide +kernel
theorem dX4_nextRight_35 : decode cX4_nextRight 35 = .ok (.iload_n 3, 1) := by decide +kernel
theorem dX4_nextRight_36 : decode cX4_nextRight 36 = .ok (.ireturn, 1) := by decide +kernel
theorem dX4_lead_0 : decode cX4_lead 0 = .ok (.aload_n 0, 1) := by decide +kernel
theorem dX4_lead_1 : decode cX4_lead 1 = .ok (.getfield 77, 3) := by decide +kernel
theorem dX4_lead_4 : decode cX4_lead 4 = .ok (.bipush 6, 2) := by decide +kernel
theorem dX4_lead_6 : decode cX4_lead 6 = .ok (.iload_n 1, 1) := by decide +kernel
theorem dX4_lead_7 : decode cX4_lead 7 = .ok (.imul, 1) := by decide +kernel
theorem dX4_lead_8 : decode cX4_lead 8 = .ok (.iload_n 2, 1) := by decide +kernel
theorem dX4_lead_9 : decode cX4_lead 9 = .ok (.iadd, 1) := by decide +kernel
theorem dX4_lead_10 : decode cX4_lead 10 = .ok (.iaload, 1) := by decide +kernel
theorem dX4_lead_11 : decode cX4_lead 11 = .ok (.ireturn, 1) := by decide +kernel
theorem dX4_nextUp_0 : decode cX4_nextUp 0 = .ok (.aload_n 0, 1) := by decide +kernel
theorem dX4_nextUp_1 : decode cX4_nextUp 1 = .ok (.iload_n 1, 1) := by decide +kernel
theorem dX4_nextUp_2 : decode cX4_nextUp 2 = .ok (.iload_n 2, 1) := by decide +kernel
theorem dX4_nextUp_3 : decode cX4_nextUp 3 = .ok (.iload_n 3, 1) := by decide +kernel
theorem dX4_nextUp_4 : decode cX4_nextUp 4 = .ok (.iload 4, 2) := by decide +kernel
theorem dX4_nextUp_6 : decode cX4_nextUp 6 = .ok (.invokestatic 176, 3) := by decide +kernel
theorem dX4_nextUp_9 : decode cX4_nextUp 9 = .ok (.invokevirtual 179, 3) := by decide +kernel
theorem dX4_nextUp_12 : decode cX4_nextUp 12 = .ok (.istore 5, 2) := by decide +kernel
theorem dX4_nextUp_14 : decode cX4_nextUp 14 = .ok (.iload_n 2, 1) := by decide +kernel
theorem dX4_nextUp_15 : decode cX4_nextUp 15 = .ok (.iconst 1, 1) := by decide +kernel
theorem dX4_nextUp_16 : decode cX4_nextUp 16 = .ok (.if_icmp .ne 8, 3) := by decide +kernel
theorem dX4_nextUp_19 : decode cX4_nextUp 19 = .ok (.iload 5, 2) := by decide +kernel
theorem dX4_nextUp_21 : decode cX4_nextUp 21 = .ok (.goto 17, 3) := by decide +kernel
theorem dX4_nextUp_24 : decode cX4_nextUp 24 = .ok (.iload_n 2, 1) := by decide +kernel
theorem dX4_nextUp_25 : decode cX4_nextUp 25 = .ok (.iconst 3, 1) := by decide +kernel
theorem dX4_nextUp_26 : decode cX4_nextUp 26 = .ok (.if_icmp .ne 10, 3) := by decide +kernel
theorem dX4_nextUp_29 : decode cX4_nextUp 29 = .ok (.iload 5, 2) := by decide +kernel
theorem dX4_nextUp_31 : decode cX4_nextUp 31 = .ok (.iconst 1, 1) := by decide +kernel
theorem dX4_nextUp_32 : decode cX4_nextUp 32 = .ok (.ixor, 1) := by decide +kernel
theorem dX4_nextUp_33 : decode cX4_nextUp 33 = .ok (.goto 5, 3) := by decide +kernel
theorem dX4_nextUp_36 : decode cX4_nextUp 36 = .ok (.iload 4, 2) := by decide +kernel
theorem dX4_nextUp_38 : decode cX4_nextUp 38 = .ok (.ireturn, 1) := by decide +kernel
theorem dX4_paper_0 : decode cX4_paper 0 = .ok (.aload_n 0, 1) := by decide +kernel
theorem dX4_paper_1 : decode cX4_paper 1 = .ok (.iload_n 1, 1) := by decide +kernel
theorem dX4_paper_2 : decode cX4_paper 2 = .ok (.invokevirtual 185, 3) := by decide +kernel
theorem dX4_paper_5 : decode cX4_paper 5 = .ok (.ifCond .eq 21, 3) := by decide +kernel
theorem dX4_paper_8 : decode cX4_paper 8 = .ok (.aload_n 0, 1) := by decide +kernel
theorem dX4_paper_9 : decode cX4_paper 9 = .ok (.getfield 25, 3) := by decide +kernel
theorem dX4_paper_12 : decode cX4_paper 12 = .ok (.iload_n 1, 1) := by decide +kernel
theorem dX4_paper_13 : decode cX4_paper 13 = .ok (.baload, 1) := by decide +kernel
theorem dX4_paper_14 : decode cX4_paper 14 = .ok (.ifCond .eq 12, 3) := by decide +kernel
theorem dX4_paper_17 : decode cX4_paper 17 = .ok (.iload_n 2, 1) := by decide +kernel
theorem dX4_paper_18 : decode cX4_paper 18 = .ok (.ifCond .lt 8, 3) := by decide +kernel
theorem dX4_paper_21 : decode cX4_paper 21 = .ok (.iload_n 2, 1) := by decide +kernel
theorem dX4_paper_22 : decode cX4_paper 22 = .ok (.iconst 3, 1) := by decide +kernel
theorem dX4_paper_23 : decode cX4_paper 23 = .ok (.if_icmp .le 7, 3) := by decide +kernel
theorem dX4_paper_26 : decode cX4_paper 26 = .ok (.sipush (-1000), 3) := by decide +kernel
theorem dX4_paper_29 : decode cX4_paper 29 = .ok (.ireturn, 1) := by decide +kernel
theorem dX4_paper_30 : decode cX4_paper 30 = .ok (.iload_n 2, 1) := by decide +kernel
theorem dX4_paper_31 : decode cX4_paper 31 = .ok (.ifCond .ne 12, 3) := by decide +kernel
theorem dX4_paper_34 : decode cX4_paper 34 = .ok (.aload_n 0, 1) := by decide +kernel
theorem dX4_paper_35 : decode cX4_paper 35 = .ok (.getfield 29, 3) := by decide +kernel
theorem dX4_paper_38 : decode cX4_paper 38 = .ok (.iload_n 1, 1) := by decide +kernel
theorem dX4_paper_39 : decode cX4_paper 39 = .ok (.iaload, 1) := by decide +kernel
theorem dX4_paper_40 : decode cX4_paper 40 = .ok (.goto 37, 3) := by decide +kernel
theorem dX4_paper_43 : decode cX4_paper 43 = .ok (.iload_n 2, 1) := by decide +kernel
theorem dX4_paper_44 : decode cX4_paper 44 = .ok (.iconst 1, 1) := by decide +kernel
theorem dX4_paper_45 : decode cX4_paper 45 = .ok (.if_icmp .ne 12, 3) := by decide +kernel
theorem dX4_paper_48 : decode cX4_paper 48 = .ok (.aload_n 0, 1) := by decide +kernel
theorem dX4_paper_49 : decode cX4_paper 49 = .ok (.getfield 32, 3) := by decide +kernel
theorem dX4_paper_52 : decode cX4_paper 52 = .ok (.iload_n 1, 1) := by decide +kernel
theorem dX4_paper_53 : decode cX4_paper 53 = .ok (.iaload, 1) := by decide +kernel
theorem dX4_paper_54 : decode cX4_paper 54 = .ok (.goto 23, 3) := by decide +kernel
theorem dX4_paper_57 : decode cX4_paper 57 = .ok (.iload_n 2, 1) := by decide +kernel
theorem dX4_paper_58 : decode cX4_paper 58 = .ok (.iconst 2, 1) := by decide +kernel
theorem dX4_paper_59 : decode cX4_paper 59 = .ok (.if_icmp .ne 12, 3) := by decide +kernel
theorem dX4_paper_62 : decode cX4_paper 62 = .ok (.aload_n 0, 1) := by decide +kernel
theorem dX4_paper_63 : decode cX4_paper 63 = .ok (.getfield 35, 3) := by decide +kernel
theorem dX4_paper_66 : decode cX4_paper 66 = .ok (.iload_n 1, 1) := by decide +kernel
theorem dX4_paper_67 : decode cX4_paper 67 = .ok (.iaload, 1) := by decide +kernel
theorem dX4_paper_68 : decode cX4_paper 68 = .ok (.goto 9, 3) := by decide +kernel
theorem dX4_paper_71 : decode cX4_paper 71 = .ok (.aload_n 0, 1) := by decide +kernel
theorem dX4_paper_72 : decode cX4_paper 72 = .ok (.getfield 38, 3) := by decide +kernel
theorem dX4_paper_75 : decode cX4_paper 75 = .ok (.iload_n 1, 1) := by decide +kernel
theorem dX4_paper_76 : decode cX4_paper 76 = .ok (.iaload, 1) := by decide +kernel
theorem dX4_paper_77 : decode cX4_paper 77 = .ok (.ireturn, 1) := by decide +kernel
theorem dX4_run_0 : decode cX4_run 0 = .ok (.iload_n 1, 1) := by decide +kernel
theorem dX4_run_1 : decode cX4_run 1 = .ok (.iconst 1, 1) := by decide +kernel
theorem dX4_run_2 : decode cX4_run 2 = .ok (.if_icmp .lt 10, 3) := by decide +kernel
theorem dX4_run_5 : decode cX4_run 5 = .ok (.iload_n 1, 1) := by decide +kernel
theorem dX4_run_6 : decode cX4_run 6 = .ok (.sipush 500, 3) := by decide +kernel
theorem dX4_run_9 : decode cX4_run 9 = .ok (.if_icmp .le 5, 3) := by decide +kernel
theorem dX4_run_12 : decode cX4_run 12 = .ok (.iconst (-1), 1) := by decide +kernel
theorem dX4_run_13 : decode cX4_run 13 = .ok (.ireturn, 1) := by decide +kernel
theorem dX4_run_14 : decode cX4_run 14 = .ok (.aload_n 0, 1) := by decide +kernel
theorem dX4_run_15 : decode cX4_run 15 = .ok (.getfield 118, 3) := by decide +kernel
theorem dX4_run_18 : decode cX4_run 18 = .ok (.ifCond .ne 6, 3) := by decide +kernel
theorem dX4_run_21 : decode cX4_run 21 = .ok (.bipush (-2), 2) := by decide +kernel
theorem dX4_run_23 : decode cX4_run 23 = .ok (.ireturn, 1) := by decide +kernel
theorem dX4_run_24 : decode cX4_run 24 = .ok (.iconst 0, 1) := by decide +kernel
theorem dX4_run_25 : decode cX4_run 25 = .ok (.istore_n 2, 1) := by decide +kernel
theorem dX4_run_26 : decode cX4_run 26 = .ok (.aload_n 0, 1) := by decide +kernel
theorem dX4_run_27 : decode cX4_run 27 = .ok (.getfield 140, 3) := by decide +kernel
theorem dX4_run_30 : decode cX4_run 30 = .ok (.ifCond .ne 331, 3) := by decide +kernel
theorem dX4_run_33 : decode cX4_run 33 = .ok (.aload_n 0, 1) := by decide +kernel
theorem dX4_run_34 : decode cX4_run 34 = .ok (.getfield 147, 3) := by decide +kernel
theorem dX4_run_37 : decode cX4_run 37 = .ok (.iconst 4, 1) := by decide +kernel
theorem dX4_run_38 : decode cX4_run 38 = .ok (.aload_n 0, 1) := by decide +kernel
theorem dX4_run_39 : decode cX4_run 39 = .ok (.getfield 144, 3) := by decide +kernel
theorem dX4_run_42 : decode cX4_run 42 = .ok (.imul, 1) := by decide +kernel
theorem dX4_run_43 : decode cX4_run 43 = .ok (.if_icmp .ne 77, 3) := by decide +kernel
theorem dX4_run_46 : decode cX4_run 46 = .ok (.aload_n 0, 1) := by decide +kernel
theorem dX4_run_47 : decode cX4_run 47 = .ok (.getfield 144, 3) := by decide +kernel
theorem dX4_run_50 : decode cX4_run 50 = .ok (.aload_n 0, 1) := by decide +kernel
theorem dX4_run_51 : decode cX4_run 51 = .ok (.getfield 115, 3) := by decide +kernel
theorem dX4_run_54 : decode cX4_run 54 = .ok (.if_icmp .ne 7, 3) := by decide +kernel
theorem dX4_run_57 : decode cX4_run 57 = .ok (.aload_n 0, 1) := by decide +kernel
theorem dX4_run_58 : decode cX4_run 58 = .ok (.invokevirtual 221, 3) := by decide +kernel
theorem dX4_run_61 : decode cX4_run 61 = .ok (.aload_n 0, 1) := by decide +kernel
theorem dX4_run_62 : decode cX4_run 62 = .ok (.getfield 144, 3) := by decide +kernel
theorem dX4_run_65 : decode cX4_run 65 = .ok (.iconst 1, 1) := by decide +kernel
theorem dX4_run_66 : decode cX4_run 66 = .ok (.if_icmp .ne 11, 3) := by decide +kernel
theorem dX4_run_69 : decode cX4_run 69 = .ok (.aload_n 0, 1) := by decide +kernel
theorem dX4_run_70 : decode cX4_run 70 = .ok (.iconst 1, 1) := by decide +kernel
theorem dX4_run_71 : decode cX4_run 71 = .ok (.putfield 140, 3) := by decide +kernel
theorem dX4_run_74 : decode cX4_run 74 = .ok (.goto (-48), 3) := by decide +kernel
theorem dX4_run_77 : decode cX4_run 77 = .ok (.aload_n 0, 1) := by decide +kernel
theorem dX4_run_78 : decode cX4_run 78 = .ok (.dup, 1) := by decide +kernel
theorem dX4_run_79 : decode cX4_run 79 = .ok (.getfield 144, 3) := by decide +kernel
theorem dX4_run_82 : decode cX4_run 82 = .ok (.iconst 1, 1) := by decide +kernel
theorem dX4_run_83 : decode cX4_run 83 = .ok (.isub, 1) := by decide +kernel
theorem dX4_run_84 : decode cX4_run 84 = .ok (.putfield 144, 3) := by decide +kernel
theorem dX4_run_87 : decode cX4_run 87 = .ok (.aload_n 0, 1) := by decide +kernel
theorem dX4_run_88 : decode cX4_run 88 = .ok (.getfield 47, 3) := by decide +kernel
theorem dX4_run_91 : decode cX4_run 91 = .ok (.aload_n 0, 1) := by decide +kernel
theorem dX4_run_92 : decode cX4_run 92 = .ok (.getfield 41, 3) := by decide +kernel
theorem dX4_run_95 : decode cX4_run 95 = .ok (.aload_n 0, 1) := by decide +kernel
theorem dX4_run_96 : decode cX4_run 96 = .ok (.getfield 144, 3) := by decide +kernel
theorem dX4_run_99 : decode cX4_run 99 = .ok (.iaload, 1) := by decide +kernel
theorem dX4_run_100 : decode cX4_run 100 = .ok (.iconst 0, 1) := by decide +kernel
theorem dX4_run_101 : decode cX4_run 101 = .ok (.bastore, 1) := by decide +kernel
theorem dX4_run_102 : decode cX4_run 102 = .ok (.aload_n 0, 1) := by decide +kernel
theorem dX4_run_103 : decode cX4_run 103 = .ok (.aload_n 0, 1) := by decide +kernel
theorem dX4_run_104 : decode cX4_run 104 = .ok (.getfield 44, 3) := by decide +kernel
theorem dX4_run_107 : decode cX4_run 107 = .ok (.aload_n 0, 1) := by decide +kernel
theorem dX4_run_108 : decode cX4_run 108 = .ok (.getfield 144, 3) := by decide +kernel
theorem dX4_run_111 : decode cX4_run 111 = .ok (.iaload, 1) := by decide +kernel
theorem dX4_run_112 : decode cX4_run 112 = .ok (.iconst 1, 1) := by decide +kernel
theorem dX4_run_113 : decode cX4_run 113 = .ok (.iadd, 1) := by decide +kernel
theorem dX4_run_114 : decode cX4_run 114 = .ok (.putfield 147, 3) := by decide +kernel
theorem dX4_run_117 : decode cX4_run 117 = .ok (.goto (-91), 3) := by decide +kernel
theorem dX4_run_120 : decode cX4_run 120 = .ok (.aload_n 0, 1) := by decide +kernel
theorem dX4_run_121 : decode cX4_run 121 = .ok (.getfield 41, 3) := by decide +kernel
theorem dX4_run_124 : decode cX4_run 124 = .ok (.aload_n 0, 1) := by decide +kernel
theorem dX4_run_125 : decode cX4_run 125 = .ok (.getfield 147, 3) := by decide +kernel
theorem dX4_run_128 : decode cX4_run 128 = .ok (.iconst 4, 1) := by decide +kernel
theorem dX4_run_129 : decode cX4_run 129 = .ok (.idiv, 1) := by decide +kernel
theorem dX4_run_130 : decode cX4_run 130 = .ok (.iaload, 1) := by decide +kernel
theorem dX4_run_131 : decode cX4_run 131 = .ok (.istore_n 3, 1) := by decide +kernel
theorem dX4_run_132 : decode cX4_run 132 = .ok (.aload_n 0, 1) := by decide +kernel
theorem dX4_run_133 : decode cX4_run 133 = .ok (.getfield 147, 3) := by decide +kernel
theorem dX4_run_136 : decode cX4_run 136 = .ok (.iconst 4, 1) := by decide +kernel
theorem dX4_run_137 : decode cX4_run 137 = .ok (.irem, 1) := by decide +kernel
theorem dX4_run_138 : decode cX4_run 138 = .ok (.istore 4, 2) := by decide +kernel
theorem dX4_run_140 : decode cX4_run 140 = .ok (.aload_n 0, 1) := by decide +kernel
theorem dX4_run_141 : decode cX4_run 141 = .ok (.iload_n 3, 1) := by decide +kernel
theorem dX4_run_142 : decode cX4_run 142 = .ok (.iload 4, 2) := by decide +kernel
theorem dX4_run_144 : decode cX4_run 144 = .ok (.aload_n 0, 1) := by decide +kernel
theorem dX4_run_145 : decode cX4_run 145 = .ok (.getfield 56, 3) := by decide +kernel
theorem dX4_run_148 : decode cX4_run 148 = .ok (.iload_n 3, 1) := by decide +kernel
theorem dX4_run_149 : decode cX4_run 149 = .ok (.iaload, 1) := by decide +kernel
theorem dX4_run_150 : decode cX4_run 150 = .ok (.aload_n 0, 1) := by decide +kernel
theorem dX4_run_151 : decode cX4_run 151 = .ok (.getfield 59, 3) := by decide +kernel
theorem dX4_run_154 : decode cX4_run 154 = .ok (.iload_n 3, 1) := by decide +kernel
theorem dX4_run_155 : decode cX4_run 155 = .ok (.iaload, 1) := by decide +kernel
theorem dX4_run_156 : decode cX4_run 156 = .ok (.invokestatic 176, 3) := by decide +kernel
theorem dX4_run_159 : decode cX4_run 159 = .ok (.invokevirtual 189, 3) := by decide +kernel
theorem dX4_run_162 : decode cX4_run 162 = .ok (.istore 5, 2) := by decide +kernel
theorem dX4_run_164 : decode cX4_run 164 = .ok (.aload_n 0, 1) := by decide +kernel
theorem dX4_run_165 : decode cX4_run 165 = .ok (.getfield 50, 3) := by decide +kernel
theorem dX4_run_168 : decode cX4_run 168 = .ok (.iload_n 3, 1) := by decide +kernel
theorem dX4_run_169 : decode cX4_run 169 = .ok (.iaload, 1) := by decide +kernel
theorem dX4_run_170 : decode cX4_run 170 = .ok (.iload 4, 2) := by decide +kernel
theorem dX4_run_172 : decode cX4_run 172 = .ok (.invokestatic 208, 3) := by decide +kernel
theorem dX4_run_175 : decode cX4_run 175 = .ok (.iadd, 1) := by decide +kernel
theorem dX4_run_176 : decode cX4_run 176 = .ok (.istore 6, 2) := by decide +kernel
theorem dX4_run_178 : decode cX4_run 178 = .ok (.aload_n 0, 1) := by decide +kernel
theorem dX4_run_179 : decode cX4_run 179 = .ok (.getfield 53, 3) := by decide +kernel
theorem dX4_run_182 : decode cX4_run 182 = .ok (.iload_n 3, 1) := by decide +kernel
theorem dX4_run_183 : decode cX4_run 183 = .ok (.iaload, 1) := by decide +kernel
theorem dX4_run_184 : decode cX4_run 184 = .ok (.iload 4, 2) := by decide +kernel
theorem dX4_run_186 : decode cX4_run 186 = .ok (.invokestatic 211, 3) := by decide +kernel
theorem dX4_run_189 : decode cX4_run 189 = .ok (.iadd, 1) := by decide +kernel
theorem dX4_run_190 : decode cX4_run 190 = .ok (.istore 7, 2) := by decide +kernel
theorem dX4_run_192 : decode cX4_run 192 = .ok (.aload_n 0, 1) := by decide +kernel
theorem dX4_run_193 : decode cX4_run 193 = .ok (.getfield 47, 3) := by decide +kernel
theorem dX4_run_196 : decode cX4_run 196 = .ok (.iload 5, 2) := by decide +kernel
theorem dX4_run_198 : decode cX4_run 198 = .ok (.baload, 1) := by decide +kernel
theorem dX4_run_199 : decode cX4_run 199 = .ok (.ifCond .ne 149, 3) := by decide +kernel
theorem dX4_run_202 : decode cX4_run 202 = .ok (.aload_n 0, 1) := by decide +kernel
theorem dX4_run_203 : decode cX4_run 203 = .ok (.iload 6, 2) := by decide +kernel
theorem dX4_run_205 : decode cX4_run 205 = .ok (.iload 7, 2) := by decide +kernel
theorem dX4_run_207 : decode cX4_run 207 = .ok (.invokevirtual 224, 3) := by decide +kernel
theorem dX4_run_210 : decode cX4_run 210 = .ok (.ifCond .eq 138, 3) := by decide +kernel
theorem dX4_run_213 : decode cX4_run 213 = .ok (.iload_n 2, 1) := by decide +kernel
theorem dX4_run_214 : decode cX4_run 214 = .ok (.iload_n 1, 1) := by decide +kernel
theorem dX4_run_215 : decode cX4_run 215 = .ok (.if_icmp .ne 8, 3) := by decide +kernel
theorem dX4_run_218 : decode cX4_run 218 = .ok (.aload_n 0, 1) := by decide +kernel
theorem dX4_run_219 : decode cX4_run 219 = .ok (.getfield 131, 3) := by decide +kernel
theorem dX4_run_222 : decode cX4_run 222 = .ok (.ireturn, 1) := by decide +kernel
theorem dX4_run_223 : decode cX4_run 223 = .ok (.iinc 2 1, 3) := by decide +kernel
theorem dX4_run_226 : decode cX4_run 226 = .ok (.aload_n 0, 1) := by decide +kernel
theorem dX4_run_227 : decode cX4_run 227 = .ok (.dup, 1) := by decide +kernel
theorem dX4_run_228 : decode cX4_run 228 = .ok (.getfield 134, 3) := by decide +kernel
theorem dX4_run_231 : decode cX4_run 231 = .ok (.iconst 1, 1) := by decide +kernel
theorem dX4_run_232 : decode cX4_run 232 = .ok (.iadd, 1) := by decide +kernel
theorem dX4_run_233 : decode cX4_run 233 = .ok (.putfield 134, 3) := by decide +kernel
theorem dX4_run_236 : decode cX4_run 236 = .ok (.aload_n 0, 1) := by decide +kernel
theorem dX4_run_237 : decode cX4_run 237 = .ok (.getfield 47, 3) := by decide +kernel
theorem dX4_run_240 : decode cX4_run 240 = .ok (.iload 5, 2) := by decide +kernel
theorem dX4_run_242 : decode cX4_run 242 = .ok (.iconst 1, 1) := by decide +kernel
theorem dX4_run_243 : decode cX4_run 243 = .ok (.bastore, 1) := by decide +kernel
theorem dX4_run_244 : decode cX4_run 244 = .ok (.aload_n 0, 1) := by decide +kernel
theorem dX4_run_245 : decode cX4_run 245 = .ok (.getfield 50, 3) := by decide +kernel
theorem dX4_run_248 : decode cX4_run 248 = .ok (.iload 5, 2) := by decide +kernel
theorem dX4_run_250 : decode cX4_run 250 = .ok (.iload 6, 2) := by decide +kernel
theorem dX4_run_252 : decode cX4_run 252 = .ok (.iastore, 1) := by decide +kernel
theorem dX4_run_253 : decode cX4_run 253 = .ok (.aload_n 0, 1) := by decide +kernel
theorem dX4_run_254 : decode cX4_run 254 = .ok (.getfield 53, 3) := by decide +kernel
theorem dX4_run_257 : decode cX4_run 257 = .ok (.iload 5, 2) := by decide +kernel
theorem dX4_run_259 : decode cX4_run 259 = .ok (.iload 7, 2) := by decide +kernel
theorem dX4_run_261 : decode cX4_run 261 = .ok (.iastore, 1) := by decide +kernel
theorem dX4_run_262 : decode cX4_run 262 = .ok (.aload_n 0, 1) := by decide +kernel
theorem dX4_run_263 : decode cX4_run 263 = .ok (.getfield 56, 3) := by decide +kernel
theorem dX4_run_266 : decode cX4_run 266 = .ok (.iload 5, 2) := by decide +kernel
theorem dX4_run_268 : decode cX4_run 268 = .ok (.aload_n 0, 1) := by decide +kernel
theorem dX4_run_269 : decode cX4_run 269 = .ok (.iload_n 3, 1) := by decide +kernel
theorem dX4_run_270 : decode cX4_run 270 = .ok (.iload 4, 2) := by decide +kernel
theorem dX4_run_272 : decode cX4_run 272 = .ok (.aload_n 0, 1) := by decide +kernel
theorem dX4_run_273 : decode cX4_run 273 = .ok (.getfield 56, 3) := by decide +kernel
theorem dX4_run_276 : decode cX4_run 276 = .ok (.iload_n 3, 1) := by decide +kernel
theorem dX4_run_277 : decode cX4_run 277 = .ok (.iaload, 1) := by decide +kernel
theorem dX4_run_278 : decode cX4_run 278 = .ok (.aload_n 0, 1) := by decide +kernel
theorem dX4_run_279 : decode cX4_run 279 = .ok (.getfield 59, 3) := by decide +kernel
theorem dX4_run_282 : decode cX4_run 282 = .ok (.iload_n 3, 1) := by decide +kernel
theorem dX4_run_283 : decode cX4_run 283 = .ok (.iaload, 1) := by decide +kernel
theorem dX4_run_284 : decode cX4_run 284 = .ok (.invokevirtual 214, 3) := by decide +kernel
theorem dX4_run_287 : decode cX4_run 287 = .ok (.iastore, 1) := by decide +kernel
theorem dX4_run_288 : decode cX4_run 288 = .ok (.aload_n 0, 1) := by decide +kernel
theorem dX4_run_289 : decode cX4_run 289 = .ok (.getfield 59, 3) := by decide +kernel
theorem dX4_run_292 : decode cX4_run 292 = .ok (.iload 5, 2) := by decide +kernel
theorem dX4_run_294 : decode cX4_run 294 = .ok (.aload_n 0, 1) := by decide +kernel
theorem dX4_run_295 : decode cX4_run 295 = .ok (.iload_n 3, 1) := by decide +kernel
theorem dX4_run_296 : decode cX4_run 296 = .ok (.iload 4, 2) := by decide +kernel
theorem dX4_run_298 : decode cX4_run 298 = .ok (.aload_n 0, 1) := by decide +kernel
theorem dX4_run_299 : decode cX4_run 299 = .ok (.getfield 56, 3) := by decide +kernel
theorem dX4_run_302 : decode cX4_run 302 = .ok (.iload_n 3, 1) := by decide +kernel
theorem dX4_run_303 : decode cX4_run 303 = .ok (.iaload, 1) := by decide +kernel
theorem dX4_run_304 : decode cX4_run 304 = .ok (.aload_n 0, 1) := by decide +kernel
theorem dX4_run_305 : decode cX4_run 305 = .ok (.getfield 59, 3) := by decide +kernel
theorem dX4_run_308 : decode cX4_run 308 = .ok (.iload_n 3, 1) := by decide +kernel
theorem dX4_run_309 : decode cX4_run 309 = .ok (.iaload, 1) := by decide +kernel
theorem dX4_run_310 : decode cX4_run 310 = .ok (.invokevirtual 218, 3) := by decide +kernel
theorem dX4_run_313 : decode cX4_run 313 = .ok (.iastore, 1) := by decide +kernel
theorem dX4_run_314 : decode cX4_run 314 = .ok (.aload_n 0, 1) := by decide +kernel
theorem dX4_run_315 : decode cX4_run 315 = .ok (.getfield 41, 3) := by decide +kernel
theorem dX4_run_318 : decode cX4_run 318 = .ok (.aload_n 0, 1) := by decide +kernel
theorem dX4_run_319 : decode cX4_run 319 = .ok (.getfield 144, 3) := by decide +kernel
theorem dX4_run_322 : decode cX4_run 322 = .ok (.iload 5, 2) := by decide +kernel
theorem dX4_run_324 : decode cX4_run 324 = .ok (.iastore, 1) := by decide +kernel
theorem dX4_run_325 : decode cX4_run 325 = .ok (.aload_n 0, 1) := by decide +kernel
theorem dX4_run_326 : decode cX4_run 326 = .ok (.getfield 44, 3) := by decide +kernel
theorem dX4_run_329 : decode cX4_run 329 = .ok (.aload_n 0, 1) := by decide +kernel
theorem dX4_run_330 : decode cX4_run 330 = .ok (.getfield 144, 3) := by decide +kernel
theorem dX4_run_333 : decode cX4_run 333 = .ok (.aload_n 0, 1) := by decide +kernel
theorem dX4_run_334 : decode cX4_run 334 = .ok (.getfield 147, 3) := by decide +kernel
theorem dX4_run_337 : decode cX4_run 337 = .ok (.iastore, 1) := by decide +kernel
theorem dX4_run_338 : decode cX4_run 338 = .ok (.aload_n 0, 1) := by decide +kernel
theorem dX4_run_339 : decode cX4_run 339 = .ok (.dup, 1) := by decide +kernel
theorem dX4_run_340 : decode cX4_run 340 = .ok (.getfield 144, 3) := by decide +kernel
theorem dX4_run_343 : decode cX4_run 343 = .ok (.iconst 1, 1) := by decide +kernel
theorem dX4_run_344 : decode cX4_run 344 = .ok (.iadd, 1) := by decide +kernel
theorem dX4_run_345 : decode cX4_run 345 = .ok (.putfield 144, 3) := by decide +kernel
theorem dX4_run_348 : decode cX4_run 348 = .ok (.aload_n 0, 1) := by decide +kernel
theorem dX4_run_349 : decode cX4_run 349 = .ok (.dup, 1) := by decide +kernel
theorem dX4_run_350 : decode cX4_run 350 = .ok (.getfield 147, 3) := by decide +kernel
theorem dX4_run_353 : decode cX4_run 353 = .ok (.iconst 1, 1) := by decide +kernel
theorem dX4_run_354 : decode cX4_run 354 = .ok (.iadd, 1) := by decide +kernel
theorem dX4_run_355 : decode cX4_run 355 = .ok (.putfield 147, 3) := by decide +kernel
theorem dX4_run_358 : decode cX4_run 358 = .ok (.goto (-332), 3) := by decide +kernel
theorem dX4_run_361 : decode cX4_run 361 = .ok (.aload_n 0, 1) := by decide +kernel
theorem dX4_run_362 : decode cX4_run 362 = .ok (.getfield 131, 3) := by decide +kernel
theorem dX4_run_365 : decode cX4_run 365 = .ok (.ireturn, 1) := by decide +kernel
theorem dX4_net_0 : decode cX4_net 0 = .ok (.aload_n 0, 1) := by decide +kernel
theorem dX4_net_1 : decode cX4_net 1 = .ok (.aload_n 0, 1) := by decide +kernel
theorem dX4_net_2 : decode cX4_net 2 = .ok (.getfield 50, 3) := by decide +kernel
theorem dX4_net_5 : decode cX4_net 5 = .ok (.invokevirtual 228, 3) := by decide +kernel
theorem dX4_net_8 : decode cX4_net 8 = .ok (.aload_n 0, 1) := by decide +kernel
theorem dX4_net_9 : decode cX4_net 9 = .ok (.aload_n 0, 1) := by decide +kernel
theorem dX4_net_10 : decode cX4_net 10 = .ok (.getfield 50, 3) := by decide +kernel
theorem dX4_net_13 : decode cX4_net 13 = .ok (.invokevirtual 232, 3) := by decide +kernel
theorem dX4_net_16 : decode cX4_net 16 = .ok (.isub, 1) := by decide +kernel
theorem dX4_net_17 : decode cX4_net 17 = .ok (.iconst 1, 1) := by decide +kernel
theorem dX4_net_18 : decode cX4_net 18 = .ok (.iadd, 1) := by decide +kernel
theorem dX4_net_19 : decode cX4_net 19 = .ok (.istore_n 1, 1) := by decide +kernel
theorem dX4_net_20 : decode cX4_net 20 = .ok (.aload_n 0, 1) := by decide +kernel
theorem dX4_net_21 : decode cX4_net 21 = .ok (.aload_n 0, 1) := by decide +kernel
theorem dX4_net_22 : decode cX4_net 22 = .ok (.getfield 53, 3) := by decide +kernel
theorem dX4_net_25 : decode cX4_net 25 = .ok (.invokevirtual 228, 3) := by decide +kernel
theorem dX4_net_28 : decode cX4_net 28 = .ok (.aload_n 0, 1) := by decide +kernel
theorem dX4_net_29 : decode cX4_net 29 = .ok (.aload_n 0, 1) := by decide +kernel
theorem dX4_net_30 : decode cX4_net 30 = .ok (.getfield 53, 3) := by decide +kernel
theorem dX4_net_33 : decode cX4_net 33 = .ok (.invokevirtual 232, 3) := by decide +kernel
theorem dX4_net_36 : decode cX4_net 36 = .ok (.isub, 1) := by decide +kernel
theorem dX4_net_37 : decode cX4_net 37 = .ok (.iconst 1, 1) := by decide +kernel
theorem dX4_net_38 : decode cX4_net 38 = .ok (.iadd, 1) := by decide +kernel
theorem dX4_net_39 : decode cX4_net 39 = .ok (.istore_n 2, 1) := by decide +kernel
theorem dX4_net_40 : decode cX4_net 40 = .ok (.aload_n 0, 1) := by decide +kernel
theorem dX4_net_41 : decode cX4_net 41 = .ok (.getfield 137, 3) := by decide +kernel
theorem dX4_net_44 : decode cX4_net 44 = .ok (.bipush (-9), 2) := by decide +kernel
theorem dX4_net_46 : decode cX4_net 46 = .ok (.if_icmp .eq 18, 3) := by decide +kernel
theorem dX4_net_49 : decode cX4_net 49 = .ok (.iload_n 1, 1) := by decide +kernel
theorem dX4_net_50 : decode cX4_net 50 = .ok (.iload_n 2, 1) := by decide +kernel
theorem dX4_net_51 : decode cX4_net 51 = .ok (.imul, 1) := by decide +kernel
theorem dX4_net_52 : decode cX4_net 52 = .ok (.aload_n 0, 1) := by decide +kernel
theorem dX4_net_53 : decode cX4_net 53 = .ok (.getfield 235, 3) := by decide +kernel
theorem dX4_net_56 : decode cX4_net 56 = .ok (.aload_n 0, 1) := by decide +kernel
theorem dX4_net_57 : decode cX4_net 57 = .ok (.getfield 238, 3) := by decide +kernel
theorem dX4_net_60 : decode cX4_net 60 = .ok (.imul, 1) := by decide +kernel
theorem dX4_net_61 : decode cX4_net 61 = .ok (.if_icmp .ge 61, 3) := by decide +kernel
theorem dX4_net_64 : decode cX4_net 64 = .ok (.aload_n 0, 1) := by decide +kernel
theorem dX4_net_65 : decode cX4_net 65 = .ok (.aload_n 0, 1) := by decide +kernel
theorem dX4_net_66 : decode cX4_net 66 = .ok (.getfield 131, 3) := by decide +kernel
theorem dX4_net_69 : decode cX4_net 69 = .ok (.putfield 137, 3) := by decide +kernel
theorem dX4_net_72 : decode cX4_net 72 = .ok (.aload_n 0, 1) := by decide +kernel
theorem dX4_net_73 : decode cX4_net 73 = .ok (.iload_n 1, 1) := by decide +kernel
theorem dX4_net_74 : decode cX4_net 74 = .ok (.putfield 235, 3) := by decide +kernel
theorem dX4_net_77 : decode cX4_net 77 = .ok (.aload_n 0, 1) := by decide +kernel
theorem dX4_net_78 : decode cX4_net 78 = .ok (.iload_n 2, 1) := by decide +kernel
theorem dX4_net_79 : decode cX4_net 79 = .ok (.putfield 238, 3) := by decide +kernel
theorem dX4_net_82 : decode cX4_net 82 = .ok (.iconst 0, 1) := by decide +kernel
theorem dX4_net_83 : decode cX4_net 83 = .ok (.istore_n 3, 1) := by decide +kernel
theorem dX4_net_84 : decode cX4_net 84 = .ok (.iload_n 3, 1) := by decide +kernel
theorem dX4_net_85 : decode cX4_net 85 = .ok (.aload_n 0, 1) := by decide +kernel
theorem dX4_net_86 : decode cX4_net 86 = .ok (.getfield 115, 3) := by decide +kernel
theorem dX4_net_89 : decode cX4_net 89 = .ok (.if_icmp .ge 33, 3) := by decide +kernel
theorem dX4_net_92 : decode cX4_net 92 = .ok (.aload_n 0, 1) := by decide +kernel
theorem dX4_net_93 : decode cX4_net 93 = .ok (.getfield 62, 3) := by decide +kernel
theorem dX4_net_96 : decode cX4_net 96 = .ok (.iload_n 3, 1) := by decide +kernel
theorem dX4_net_97 : decode cX4_net 97 = .ok (.aload_n 0, 1) := by decide +kernel
theorem dX4_net_98 : decode cX4_net 98 = .ok (.getfield 50, 3) := by decide +kernel
theorem dX4_net_101 : decode cX4_net 101 = .ok (.iload_n 3, 1) := by decide +kernel
theorem dX4_net_102 : decode cX4_net 102 = .ok (.iaload, 1) := by decide +kernel
theorem dX4_net_103 : decode cX4_net 103 = .ok (.iastore, 1) := by decide +kernel
theorem dX4_net_104 : decode cX4_net 104 = .ok (.aload_n 0, 1) := by decide +kernel
theorem dX4_net_105 : decode cX4_net 105 = .ok (.getfield 65, 3) := by decide +kernel
theorem dX4_net_108 : decode cX4_net 108 = .ok (.iload_n 3, 1) := by decide +kernel
theorem dX4_net_109 : decode cX4_net 109 = .ok (.aload_n 0, 1) := by decide +kernel
theorem dX4_net_110 : decode cX4_net 110 = .ok (.getfield 53, 3) := by decide +kernel
theorem dX4_net_113 : decode cX4_net 113 = .ok (.iload_n 3, 1) := by decide +kernel
theorem dX4_net_114 : decode cX4_net 114 = .ok (.iaload, 1) := by decide +kernel
theorem dX4_net_115 : decode cX4_net 115 = .ok (.iastore, 1) := by decide +kernel
theorem dX4_net_116 : decode cX4_net 116 = .ok (.iinc 3 1, 3) := by decide +kernel
theorem dX4_net_119 : decode cX4_net 119 = .ok (.goto (-35), 3) := by decide +kernel
theorem dX4_net_122 : decode cX4_net 122 = .ok (.aload_n 0, 1) := by decide +kernel
theorem dX4_net_123 : decode cX4_net 123 = .ok (.dup, 1) := by decide +kernel
theorem dX4_net_124 : decode cX4_net 124 = .ok (.getfield 131, 3) := by decide +kernel
theorem dX4_net_127 : decode cX4_net 127 = .ok (.iconst 1, 1) := by decide +kernel
theorem dX4_net_128 : decode cX4_net 128 = .ok (.iadd, 1) := by decide +kernel
theorem dX4_net_129 : decode cX4_net 129 = .ok (.putfield 131, 3) := by decide +kernel
theorem dX4_net_132 : decode cX4_net 132 = .ok (.iconst 0, 1) := by decide +kernel
theorem dX4_net_133 : decode cX4_net 133 = .ok (.istore_n 3, 1) := by decide +kernel
theorem dX4_net_134 : decode cX4_net 134 = .ok (.iload_n 3, 1) := by decide +kernel
theorem dX4_net_135 : decode cX4_net 135 = .ok (.bipush 8, 2) := by decide +kernel
theorem dX4_net_137 : decode cX4_net 137 = .ok (.if_icmp .ge 296, 3) := by decide +kernel
theorem dX4_net_140 : decode cX4_net 140 = .ok (.iconst 0, 1) := by decide +kernel
theorem dX4_net_141 : decode cX4_net 141 = .ok (.istore 4, 2) := by decide +kernel
theorem dX4_net_143 : decode cX4_net 143 = .ok (.iload 4, 2) := by decide +kernel
theorem dX4_net_145 : decode cX4_net 145 = .ok (.aload_n 0, 1) := by decide +kernel
theorem dX4_net_146 : decode cX4_net 146 = .ok (.getfield 115, 3) := by decide +kernel
theorem dX4_net_149 : decode cX4_net 149 = .ok (.if_icmp .ge 59, 3) := by decide +kernel
theorem dX4_net_152 : decode cX4_net 152 = .ok (.aload_n 0, 1) := by decide +kernel
theorem dX4_net_153 : decode cX4_net 153 = .ok (.getfield 84, 3) := by decide +kernel
theorem dX4_net_156 : decode cX4_net 156 = .ok (.iload 4, 2) := by decide +kernel
theorem dX4_net_158 : decode cX4_net 158 = .ok (.iload_n 3, 1) := by decide +kernel
theorem dX4_net_159 : decode cX4_net 159 = .ok (.aload_n 0, 1) := by decide +kernel
theorem dX4_net_160 : decode cX4_net 160 = .ok (.getfield 50, 3) := by decide +kernel
theorem dX4_net_163 : decode cX4_net 163 = .ok (.iload 4, 2) := by decide +kernel
theorem dX4_net_165 : decode cX4_net 165 = .ok (.iaload, 1) := by decide +kernel
theorem dX4_net_166 : decode cX4_net 166 = .ok (.aload_n 0, 1) := by decide +kernel
theorem dX4_net_167 : decode cX4_net 167 = .ok (.getfield 53, 3) := by decide +kernel
theorem dX4_net_170 : decode cX4_net 170 = .ok (.iload 4, 2) := by decide +kernel
theorem dX4_net_172 : decode cX4_net 172 = .ok (.iaload, 1) := by decide +kernel
theorem dX4_net_173 : decode cX4_net 173 = .ok (.invokestatic 241, 3) := by decide +kernel
theorem dX4_net_176 : decode cX4_net 176 = .ok (.iastore, 1) := by decide +kernel
theorem dX4_net_177 : decode cX4_net 177 = .ok (.aload_n 0, 1) := by decide +kernel
theorem dX4_net_178 : decode cX4_net 178 = .ok (.getfield 87, 3) := by decide +kernel
theorem dX4_net_181 : decode cX4_net 181 = .ok (.iload 4, 2) := by decide +kernel
theorem dX4_net_183 : decode cX4_net 183 = .ok (.iload_n 3, 1) := by decide +kernel
theorem dX4_net_184 : decode cX4_net 184 = .ok (.aload_n 0, 1) := by decide +kernel
theorem dX4_net_185 : decode cX4_net 185 = .ok (.getfield 50, 3) := by decide +kernel
theorem dX4_net_188 : decode cX4_net 188 = .ok (.iload 4, 2) := by decide +kernel
theorem dX4_net_190 : decode cX4_net 190 = .ok (.iaload, 1) := by decide +kernel
theorem dX4_net_191 : decode cX4_net 191 = .ok (.aload_n 0, 1) := by decide +kernel
theorem dX4_net_192 : decode cX4_net 192 = .ok (.getfield 53, 3) := by decide +kernel
theorem dX4_net_195 : decode cX4_net 195 = .ok (.iload 4, 2) := by decide +kernel
theorem dX4_net_197 : decode cX4_net 197 = .ok (.iaload, 1) := by decide +kernel
theorem dX4_net_198 : decode cX4_net 198 = .ok (.invokestatic 244, 3) := by decide +kernel
theorem dX4_net_201 : decode cX4_net 201 = .ok (.iastore, 1) := by decide +kernel
theorem dX4_net_202 : decode cX4_net 202 = .ok (.iinc 4 1, 3) := by decide +kernel
theorem dX4_net_205 : decode cX4_net 205 = .ok (.goto (-62), 3) := by decide +kernel
theorem dX4_net_208 : decode cX4_net 208 = .ok (.aload_n 0, 1) := by decide +kernel
theorem dX4_net_209 : decode cX4_net 209 = .ok (.aload_n 0, 1) := by decide +kernel
theorem dX4_net_210 : decode cX4_net 210 = .ok (.getfield 84, 3) := by decide +kernel
theorem dX4_net_213 : decode cX4_net 213 = .ok (.invokevirtual 232, 3) := by decide +kernel
theorem dX4_net_216 : decode cX4_net 216 = .ok (.istore 4, 2) := by decide +kernel
theorem dX4_net_218 : decode cX4_net 218 = .ok (.aload_n 0, 1) := by decide +kernel
theorem dX4_net_219 : decode cX4_net 219 = .ok (.aload_n 0, 1) := by decide +kernel
theorem dX4_net_220 : decode cX4_net 220 = .ok (.getfield 87, 3) := by decide +kernel
theorem dX4_net_223 : decode cX4_net 223 = .ok (.invokevirtual 232, 3) := by decide +kernel
theorem dX4_net_226 : decode cX4_net 226 = .ok (.istore 5, 2) := by decide +kernel
theorem dX4_net_228 : decode cX4_net 228 = .ok (.iconst 0, 1) := by decide +kernel
theorem dX4_net_229 : decode cX4_net 229 = .ok (.istore 6, 2) := by decide +kernel
theorem dX4_net_231 : decode cX4_net 231 = .ok (.iload 6, 2) := by decide +kernel
theorem dX4_net_233 : decode cX4_net 233 = .ok (.aload_n 0, 1) := by decide +kernel
theorem dX4_net_234 : decode cX4_net 234 = .ok (.getfield 115, 3) := by decide +kernel
theorem dX4_net_237 : decode cX4_net 237 = .ok (.if_icmp .ge 89, 3) := by decide +kernel
theorem dX4_net_240 : decode cX4_net 240 = .ok (.bipush 32, 2) := by decide +kernel
theorem dX4_net_242 : decode cX4_net 242 = .ok (.aload_n 0, 1) := by decide +kernel
theorem dX4_net_243 : decode cX4_net 243 = .ok (.getfield 87, 3) := by decide +kernel
theorem dX4_net_246 : decode cX4_net 246 = .ok (.iload 6, 2) := by decide +kernel
theorem dX4_net_248 : decode cX4_net 248 = .ok (.iaload, 1) := by decide +kernel
theorem dX4_net_249 : decode cX4_net 249 = .ok (.iload 5, 2) := by decide +kernel
theorem dX4_net_251 : decode cX4_net 251 = .ok (.isub, 1) := by decide +kernel
theorem dX4_net_252 : decode cX4_net 252 = .ok (.imul, 1) := by decide +kernel
theorem dX4_net_253 : decode cX4_net 253 = .ok (.aload_n 0, 1) := by decide +kernel
theorem dX4_net_254 : decode cX4_net 254 = .ok (.getfield 84, 3) := by decide +kernel
theorem dX4_net_257 : decode cX4_net 257 = .ok (.iload 6, 2) := by decide +kernel
theorem dX4_net_259 : decode cX4_net 259 = .ok (.iaload, 1) := by decide +kernel
theorem dX4_net_260 : decode cX4_net 260 = .ok (.iadd, 1) := by decide +kernel
theorem dX4_net_261 : decode cX4_net 261 = .ok (.iload 4, 2) := by decide +kernel
theorem dX4_net_263 : decode cX4_net 263 = .ok (.isub, 1) := by decide +kernel
theorem dX4_net_264 : decode cX4_net 264 = .ok (.istore 7, 2) := by decide +kernel
theorem dX4_net_266 : decode cX4_net 266 = .ok (.iload 6, 2) := by decide +kernel
theorem dX4_net_268 : decode cX4_net 268 = .ok (.istore 8, 2) := by decide +kernel
theorem dX4_net_270 : decode cX4_net 270 = .ok (.iload 8, 2) := by decide +kernel
theorem dX4_net_272 : decode cX4_net 272 = .ok (.ifCond .le 39, 3) := by decide +kernel
theorem dX4_net_275 : decode cX4_net 275 = .ok (.aload_n 0, 1) := by decide +kernel
theorem dX4_net_276 : decode cX4_net 276 = .ok (.getfield 90, 3) := by decide +kernel
theorem dX4_net_279 : decode cX4_net 279 = .ok (.iload 8, 2) := by decide +kernel
theorem dX4_net_281 : decode cX4_net 281 = .ok (.iconst 1, 1) := by decide +kernel
theorem dX4_net_282 : decode cX4_net 282 = .ok (.isub, 1) := by decide +kernel
theorem dX4_net_283 : decode cX4_net 283 = .ok (.iaload, 1) := by decide +kernel
theorem dX4_net_284 : decode cX4_net 284 = .ok (.iload 7, 2) := by decide +kernel
theorem dX4_net_286 : decode cX4_net 286 = .ok (.if_icmp .le 25, 3) := by decide +kernel
theorem dX4_net_289 : decode cX4_net 289 = .ok (.aload_n 0, 1) := by decide +kernel
theorem dX4_net_290 : decode cX4_net 290 = .ok (.getfield 90, 3) := by decide +kernel
theorem dX4_net_293 : decode cX4_net 293 = .ok (.iload 8, 2) := by decide +kernel
theorem dX4_net_295 : decode cX4_net 295 = .ok (.aload_n 0, 1) := by decide +kernel
theorem dX4_net_296 : decode cX4_net 296 = .ok (.getfield 90, 3) := by decide +kernel
theorem dX4_net_299 : decode cX4_net 299 = .ok (.iload 8, 2) := by decide +kernel
theorem dX4_net_301 : decode cX4_net 301 = .ok (.iconst 1, 1) := by decide +kernel
theorem dX4_net_302 : decode cX4_net 302 = .ok (.isub, 1) := by decide +kernel
theorem dX4_net_303 : decode cX4_net 303 = .ok (.iaload, 1) := by decide +kernel
theorem dX4_net_304 : decode cX4_net 304 = .ok (.iastore, 1) := by decide +kernel
theorem dX4_net_305 : decode cX4_net 305 = .ok (.iinc 8 (-1), 3) := by decide +kernel
theorem dX4_net_308 : decode cX4_net 308 = .ok (.goto (-38), 3) := by decide +kernel
theorem dX4_net_311 : decode cX4_net 311 = .ok (.aload_n 0, 1) := by decide +kernel
theorem dX4_net_312 : decode cX4_net 312 = .ok (.getfield 90, 3) := by decide +kernel
theorem dX4_net_315 : decode cX4_net 315 = .ok (.iload 8, 2) := by decide +kernel
theorem dX4_net_317 : decode cX4_net 317 = .ok (.iload 7, 2) := by decide +kernel
theorem dX4_net_319 : decode cX4_net 319 = .ok (.iastore, 1) := by decide +kernel
theorem dX4_net_320 : decode cX4_net 320 = .ok (.iinc 6 1, 3) := by decide +kernel
theorem dX4_net_323 : decode cX4_net 323 = .ok (.goto (-92), 3) := by decide +kernel
theorem dX4_net_326 : decode cX4_net 326 = .ok (.iconst 0, 1) := by decide +kernel
theorem dX4_net_327 : decode cX4_net 327 = .ok (.istore 6, 2) := by decide +kernel
theorem dX4_net_329 : decode cX4_net 329 = .ok (.iload_n 3, 1) := by decide +kernel
theorem dX4_net_330 : decode cX4_net 330 = .ok (.ifCond .le 35, 3) := by decide +kernel
theorem dX4_net_333 : decode cX4_net 333 = .ok (.iload 6, 2) := by decide +kernel
theorem dX4_net_335 : decode cX4_net 335 = .ok (.aload_n 0, 1) := by decide +kernel
theorem dX4_net_336 : decode cX4_net 336 = .ok (.getfield 115, 3) := by decide +kernel
theorem dX4_net_339 : decode cX4_net 339 = .ok (.if_icmp .ge 26, 3) := by decide +kernel
theorem dX4_net_342 : decode cX4_net 342 = .ok (.aload_n 0, 1) := by decide +kernel
theorem dX4_net_343 : decode cX4_net 343 = .ok (.getfield 90, 3) := by decide +kernel
theorem dX4_net_346 : decode cX4_net 346 = .ok (.iload 6, 2) := by decide +kernel
theorem dX4_net_348 : decode cX4_net 348 = .ok (.iaload, 1) := by decide +kernel
theorem dX4_net_349 : decode cX4_net 349 = .ok (.aload_n 0, 1) := by decide +kernel
theorem dX4_net_350 : decode cX4_net 350 = .ok (.getfield 93, 3) := by decide +kernel
theorem dX4_net_353 : decode cX4_net 353 = .ok (.iload 6, 2) := by decide +kernel
theorem dX4_net_355 : decode cX4_net 355 = .ok (.iaload, 1) := by decide +kernel
theorem dX4_net_356 : decode cX4_net 356 = .ok (.if_icmp .ne 9, 3) := by decide +kernel
theorem dX4_net_359 : decode cX4_net 359 = .ok (.iinc 6 1, 3) := by decide +kernel
theorem dX4_net_362 : decode cX4_net 362 = .ok (.goto (-33), 3) := by decide +kernel
theorem dX4_net_365 : decode cX4_net 365 = .ok (.iload_n 3, 1) := by decide +kernel
theorem dX4_net_366 : decode cX4_net 366 = .ok (.ifCond .eq 29, 3) := by decide +kernel
theorem dX4_net_369 : decode cX4_net 369 = .ok (.iload 6, 2) := by decide +kernel
theorem dX4_net_371 : decode cX4_net 371 = .ok (.aload_n 0, 1) := by decide +kernel
theorem dX4_net_372 : decode cX4_net 372 = .ok (.getfield 115, 3) := by decide +kernel
theorem dX4_net_375 : decode cX4_net 375 = .ok (.if_icmp .ge 52, 3) := by decide +kernel
theorem dX4_net_378 : decode cX4_net 378 = .ok (.aload_n 0, 1) := by decide +kernel
theorem dX4_net_379 : decode cX4_net 379 = .ok (.getfield 90, 3) := by decide +kernel
theorem dX4_net_382 : decode cX4_net 382 = .ok (.iload 6, 2) := by decide +kernel
theorem dX4_net_384 : decode cX4_net 384 = .ok (.iaload, 1) := by decide +kernel
theorem dX4_net_385 : decode cX4_net 385 = .ok (.aload_n 0, 1) := by decide +kernel
theorem dX4_net_386 : decode cX4_net 386 = .ok (.getfield 93, 3) := by decide +kernel
theorem dX4_net_389 : decode cX4_net 389 = .ok (.iload 6, 2) := by decide +kernel
theorem dX4_net_391 : decode cX4_net 391 = .ok (.iaload, 1) := by decide +kernel
theorem dX4_net_392 : decode cX4_net 392 = .ok (.if_icmp .ge 35, 3) := by decide +kernel
theorem dX4_net_395 : decode cX4_net 395 = .ok (.iconst 0, 1) := by decide +kernel
theorem dX4_net_396 : decode cX4_net 396 = .ok (.istore 7, 2) := by decide +kernel
theorem dX4_net_398 : decode cX4_net 398 = .ok (.iload 7, 2) := by decide +kernel
theorem dX4_net_400 : decode cX4_net 400 = .ok (.aload_n 0, 1) := by decide +kernel
theorem dX4_net_401 : decode cX4_net 401 = .ok (.getfield 115, 3) := by decide +kernel
theorem dX4_net_404 : decode cX4_net 404 = .ok (.if_icmp .ge 23, 3) := by decide +kernel
theorem dX4_net_407 : decode cX4_net 407 = .ok (.aload_n 0, 1) := by decide +kernel
theorem dX4_net_408 : decode cX4_net 408 = .ok (.getfield 93, 3) := by decide +kernel
theorem dX4_net_411 : decode cX4_net 411 = .ok (.iload 7, 2) := by decide +kernel
theorem dX4_net_413 : decode cX4_net 413 = .ok (.aload_n 0, 1) := by decide +kernel
theorem dX4_net_414 : decode cX4_net 414 = .ok (.getfield 90, 3) := by decide +kernel
theorem dX4_net_417 : decode cX4_net 417 = .ok (.iload 7, 2) := by decide +kernel
theorem dX4_net_419 : decode cX4_net 419 = .ok (.iaload, 1) := by decide +kernel
theorem dX4_net_420 : decode cX4_net 420 = .ok (.iastore, 1) := by decide +kernel
theorem dX4_net_421 : decode cX4_net 421 = .ok (.iinc 7 1, 3) := by decide +kernel
theorem dX4_net_424 : decode cX4_net 424 = .ok (.goto (-26), 3) := by decide +kernel
theorem dX4_net_427 : decode cX4_net 427 = .ok (.iinc 3 1, 3) := by decide +kernel
theorem dX4_net_430 : decode cX4_net 430 = .ok (.goto (-296), 3) := by decide +kernel
theorem dX4_net_433 : decode cX4_net 433 = .ok (.aload_n 0, 1) := by decide +kernel
theorem dX4_net_434 : decode cX4_net 434 = .ok (.invokevirtual 247, 3) := by decide +kernel
theorem dX4_net_437 : decode cX4_net 437 = .ok (.return_, 1) := by decide +kernel
theorem dX4_most_0 : decode cX4_most 0 = .ok (.aload_n 1, 1) := by decide +kernel
theorem dX4_most_1 : decode cX4_most 1 = .ok (.iconst 0, 1) := by decide +kernel
theorem dX4_most_2 : decode cX4_most 2 = .ok (.iaload, 1) := by decide +kernel
theorem dX4_most_3 : decode cX4_most 3 = .ok (.istore_n 2, 1) := by decide +kernel
theorem dX4_most_4 : decode cX4_most 4 = .ok (.iconst 1, 1) := by decide +kernel
theorem dX4_most_5 : decode cX4_most 5 = .ok (.istore_n 3, 1) := by decide +kernel
theorem dX4_most_6 : decode cX4_most 6 = .ok (.iload_n 3, 1) := by decide +kernel
theorem dX4_most_7 : decode cX4_most 7 = .ok (.aload_n 0, 1) := by decide +kernel
theorem dX4_most_8 : decode cX4_most 8 = .ok (.getfield 115, 3) := by decide +kernel
theorem dX4_most_11 : decode cX4_most 11 = .ok (.if_icmp .ge 24, 3) := by decide +kernel
theorem dX4_most_14 : decode cX4_most 14 = .ok (.aload_n 1, 1) := by decide +kernel
theorem dX4_most_15 : decode cX4_most 15 = .ok (.iload_n 3, 1) := by decide +kernel
theorem dX4_most_16 : decode cX4_most 16 = .ok (.iaload, 1) := by decide +kernel
theorem dX4_most_17 : decode cX4_most 17 = .ok (.iload_n 2, 1) := by decide +kernel
theorem dX4_most_18 : decode cX4_most 18 = .ok (.if_icmp .le 9, 3) := by decide +kernel
theorem dX4_most_21 : decode cX4_most 21 = .ok (.aload_n 1, 1) := by decide +kernel
theorem dX4_most_22 : decode cX4_most 22 = .ok (.iload_n 3, 1) := by decide +kernel
theorem dX4_most_23 : decode cX4_most 23 = .ok (.iaload, 1) := by decide +kernel
theorem dX4_most_24 : decode cX4_most 24 = .ok (.goto 4, 3) := by decide +kernel
theorem dX4_most_27 : decode cX4_most 27 = .ok (.iload_n 2, 1) := by decide +kernel
theorem dX4_most_28 : decode cX4_most 28 = .ok (.istore_n 2, 1) := by decide +kernel
theorem dX4_most_29 : decode cX4_most 29 = .ok (.iinc 3 1, 3) := by decide +kernel
theorem dX4_most_32 : decode cX4_most 32 = .ok (.goto (-26), 3) := by decide +kernel
theorem dX4_most_35 : decode cX4_most 35 = .ok (.iload_n 2, 1) := by decide +kernel
theorem dX4_most_36 : decode cX4_most 36 = .ok (.ireturn, 1) := by decide +kernel
theorem dX4_least_0 : decode cX4_least 0 = .ok (.aload_n 1, 1) := by decide +kernel
theorem dX4_least_1 : decode cX4_least 1 = .ok (.iconst 0, 1) := by decide +kernel
theorem dX4_least_2 : decode cX4_least 2 = .ok (.iaload, 1) := by decide +kernel
theorem dX4_least_3 : decode cX4_least 3 = .ok (.istore_n 2, 1) := by decide +kernel
theorem dX4_least_4 : decode cX4_least 4 = .ok (.iconst 1, 1) := by decide +kernel
theorem dX4_least_5 : decode cX4_least 5 = .ok (.istore_n 3, 1) := by decide +kernel
theorem dX4_least_6 : decode cX4_least 6 = .ok (.iload_n 3, 1) := by decide +kernel
theorem dX4_least_7 : decode cX4_least 7 = .ok (.aload_n 0, 1) := by decide +kernel
theorem dX4_least_8 : decode cX4_least 8 = .ok (.getfield 115, 3) := by decide +kernel
theorem dX4_least_11 : decode cX4_least 11 = .ok (.if_icmp .ge 24, 3) := by decide +kernel
theorem dX4_least_14 : decode cX4_least 14 = .ok (.aload_n 1, 1) := by decide +kernel
theorem dX4_least_15 : decode cX4_least 15 = .ok (.iload_n 3, 1) := by decide +kernel
theorem dX4_least_16 : decode cX4_least 16 = .ok (.iaload, 1) := by decide +kernel
theorem dX4_least_17 : decode cX4_least 17 = .ok (.iload_n 2, 1) := by decide +kernel
theorem dX4_least_18 : decode cX4_least 18 = .ok (.if_icmp .ge 9, 3) := by decide +kernel
theorem dX4_least_21 : decode cX4_least 21 = .ok (.aload_n 1, 1) := by decide +kernel
theorem dX4_least_22 : decode cX4_least 22 = .ok (.iload_n 3, 1) := by decide +kernel
theorem dX4_least_23 : decode cX4_least 23 = .ok (.iaload, 1) := by decide +kernel
theorem dX4_least_24 : decode cX4_least 24 = .ok (.goto 4, 3) := by decide +kernel
theorem dX4_least_27 : decode cX4_least 27 = .ok (.iload_n 2, 1) := by decide +kernel
theorem dX4_least_28 : decode cX4_least 28 = .ok (.istore_n 2, 1) := by decide +kernel
theorem dX4_least_29 : decode cX4_least 29 = .ok (.iinc 3 1, 3) := by decide +kernel
theorem dX4_least_32 : decode cX4_least 32 = .ok (.goto (-26), 3) := by decide +kernel
theorem dX4_least_35 : decode cX4_least 35 = .ok (.iload_n 2, 1) := by decide +kernel
theorem dX4_least_36 : decode cX4_least 36 = .ok (.ireturn, 1) := by decide +kernel
theorem dX4_imageOfX_0 : decode cX4_imageOfX 0 = .ok (.iload_n 0, 1) := by decide +kernel
theorem dX4_imageOfX_1 : decode cX4_imageOfX 1 = .ok (.iconst 2, 1) := by decide +kernel
theorem dX4_imageOfX_2 : decode cX4_imageOfX 2 = .ok (.irem, 1) := by decide +kernel
theorem dX4_imageOfX_3 : decode cX4_imageOfX 3 = .ok (.ifCond .ne 7, 3) := by decide +kernel
theorem dX4_imageOfX_6 : decode cX4_imageOfX 6 = .ok (.iload_n 1, 1) := by decide +kernel
theorem dX4_imageOfX_7 : decode cX4_imageOfX 7 = .ok (.goto 4, 3) := by decide +kernel
theorem dX4_imageOfX_10 : decode cX4_imageOfX 10 = .ok (.iload_n 2, 1) := by decide +kernel
theorem dX4_imageOfX_11 : decode cX4_imageOfX 11 = .ok (.istore_n 3, 1) := by decide +kernel
theorem dX4_imageOfX_12 : decode cX4_imageOfX 12 = .ok (.iload_n 0, 1) := by decide +kernel
theorem dX4_imageOfX_13 : decode cX4_imageOfX 13 = .ok (.iconst 2, 1) := by decide +kernel
theorem dX4_imageOfX_14 : decode cX4_imageOfX 14 = .ok (.if_icmp .eq 20, 3) := by decide +kernel
theorem dX4_imageOfX_17 : decode cX4_imageOfX 17 = .ok (.iload_n 0, 1) := by decide +kernel
theorem dX4_imageOfX_18 : decode cX4_imageOfX 18 = .ok (.iconst 3, 1) := by decide +kernel
theorem dX4_imageOfX_19 : decode cX4_imageOfX 19 = .ok (.if_icmp .eq 15, 3) := by decide +kernel
theorem dX4_imageOfX_22 : decode cX4_imageOfX 22 = .ok (.iload_n 0, 1) := by decide +kernel
theorem dX4_imageOfX_23 : decode cX4_imageOfX 23 = .ok (.bipush 6, 2) := by decide +kernel
theorem dX4_imageOfX_25 : decode cX4_imageOfX 25 = .ok (.if_icmp .eq 9, 3) := by decide +kernel
theorem dX4_imageOfX_28 : decode cX4_imageOfX 28 = .ok (.iload_n 0, 1) := by decide +kernel
theorem dX4_imageOfX_29 : decode cX4_imageOfX 29 = .ok (.bipush 7, 2) := by decide +kernel
theorem dX4_imageOfX_31 : decode cX4_imageOfX 31 = .ok (.if_icmp .ne 8, 3) := by decide +kernel
theorem dX4_imageOfX_34 : decode cX4_imageOfX 34 = .ok (.iload_n 3, 1) := by decide +kernel
theorem dX4_imageOfX_35 : decode cX4_imageOfX 35 = .ok (.ineg, 1) := by decide +kernel
theorem dX4_imageOfX_36 : decode cX4_imageOfX 36 = .ok (.goto 4, 3) := by decide +kernel
theorem dX4_imageOfX_39 : decode cX4_imageOfX 39 = .ok (.iload_n 3, 1) := by decide +kernel
theorem dX4_imageOfX_40 : decode cX4_imageOfX 40 = .ok (.ireturn, 1) := by decide +kernel
theorem dX4_imageOfY_0 : decode cX4_imageOfY 0 = .ok (.iload_n 0, 1) := by decide +kernel
theorem dX4_imageOfY_1 : decode cX4_imageOfY 1 = .ok (.iconst 2, 1) := by decide +kernel
theorem dX4_imageOfY_2 : decode cX4_imageOfY 2 = .ok (.irem, 1) := by decide +kernel
theorem dX4_imageOfY_3 : decode cX4_imageOfY 3 = .ok (.ifCond .ne 7, 3) := by decide +kernel
theorem dX4_imageOfY_6 : decode cX4_imageOfY 6 = .ok (.iload_n 2, 1) := by decide +kernel
theorem dX4_imageOfY_7 : decode cX4_imageOfY 7 = .ok (.goto 4, 3) := by decide +kernel
theorem dX4_imageOfY_10 : decode cX4_imageOfY 10 = .ok (.iload_n 1, 1) := by decide +kernel
theorem dX4_imageOfY_11 : decode cX4_imageOfY 11 = .ok (.istore_n 3, 1) := by decide +kernel
theorem dX4_imageOfY_12 : decode cX4_imageOfY 12 = .ok (.iload_n 0, 1) := by decide +kernel
theorem dX4_imageOfY_13 : decode cX4_imageOfY 13 = .ok (.iconst 4, 1) := by decide +kernel
theorem dX4_imageOfY_14 : decode cX4_imageOfY 14 = .ok (.if_icmp .lt 8, 3) := by decide +kernel
theorem dX4_imageOfY_17 : decode cX4_imageOfY 17 = .ok (.iload_n 3, 1) := by decide +kernel
theorem dX4_imageOfY_18 : decode cX4_imageOfY 18 = .ok (.ineg, 1) := by decide +kernel
theorem dX4_imageOfY_19 : decode cX4_imageOfY 19 = .ok (.goto 4, 3) := by decide +kernel
theorem dX4_imageOfY_22 : decode cX4_imageOfY 22 = .ok (.iload_n 3, 1) := by decide +kernel
theorem dX4_imageOfY_23 : decode cX4_imageOfY 23 = .ok (.ireturn, 1) := by decide +kernel
theorem dX4_keep_0 : decode cX4_keep 0 = .ok (.iconst 0, 1) := by decide +kernel
theorem dX4_keep_1 : decode cX4_keep 1 = .ok (.istore_n 1, 1) := by decide +kernel
theorem dX4_keep_2 : decode cX4_keep 2 = .ok (.iload_n 1, 1) := by decide +kernel
theorem dX4_keep_3 : decode cX4_keep 3 = .ok (.aload_n 0, 1) := by decide +kernel
theorem dX4_keep_4 : decode cX4_keep 4 = .ok (.getfield 182, 3) := by decide +kernel
theorem dX4_keep_7 : decode cX4_keep 7 = .ok (.if_icmp .ge 79, 3) := by decide +kernel
theorem dX4_keep_10 : decode cX4_keep 10 = .ok (.aload_n 0, 1) := by decide +kernel
theorem dX4_keep_11 : decode cX4_keep 11 = .ok (.getfield 68, 3) := by decide +kernel
theorem dX4_keep_14 : decode cX4_keep 14 = .ok (.iload_n 1, 1) := by decide +kernel
theorem dX4_keep_15 : decode cX4_keep 15 = .ok (.iaload, 1) := by decide +kernel
theorem dX4_keep_16 : decode cX4_keep 16 = .ok (.aload_n 0, 1) := by decide +kernel
theorem dX4_keep_17 : decode cX4_keep 17 = .ok (.getfield 115, 3) := by decide +kernel
theorem dX4_keep_20 : decode cX4_keep 20 = .ok (.if_icmp .ne 7, 3) := by decide +kernel
theorem dX4_keep_23 : decode cX4_keep 23 = .ok (.iconst 1, 1) := by decide +kernel
theorem dX4_keep_24 : decode cX4_keep 24 = .ok (.goto 4, 3) := by decide +kernel
theorem dX4_keep_27 : decode cX4_keep 27 = .ok (.iconst 0, 1) := by decide +kernel
theorem dX4_keep_28 : decode cX4_keep 28 = .ok (.istore_n 2, 1) := by decide +kernel
theorem dX4_keep_29 : decode cX4_keep 29 = .ok (.iconst 0, 1) := by decide +kernel
theorem dX4_keep_30 : decode cX4_keep 30 = .ok (.istore_n 3, 1) := by decide +kernel
theorem dX4_keep_31 : decode cX4_keep 31 = .ok (.iload_n 3, 1) := by decide +kernel
theorem dX4_keep_32 : decode cX4_keep 32 = .ok (.aload_n 0, 1) := by decide +kernel
theorem dX4_keep_33 : decode cX4_keep 33 = .ok (.getfield 115, 3) := by decide +kernel
theorem dX4_keep_36 : decode cX4_keep 36 = .ok (.if_icmp .ge 39, 3) := by decide +kernel
theorem dX4_keep_39 : decode cX4_keep 39 = .ok (.iload_n 2, 1) := by decide +kernel
theorem dX4_keep_40 : decode cX4_keep 40 = .ok (.ifCond .eq 35, 3) := by decide +kernel
theorem dX4_keep_43 : decode cX4_keep 43 = .ok (.aload_n 0, 1) := by decide +kernel
theorem dX4_keep_44 : decode cX4_keep 44 = .ok (.getfield 71, 3) := by decide +kernel
theorem dX4_keep_47 : decode cX4_keep 47 = .ok (.bipush 30, 2) := by decide +kernel
theorem dX4_keep_49 : decode cX4_keep 49 = .ok (.iload_n 1, 1) := by decide +kernel
theorem dX4_keep_50 : decode cX4_keep 50 = .ok (.imul, 1) := by decide +kernel
theorem dX4_keep_51 : decode cX4_keep 51 = .ok (.iload_n 3, 1) := by decide +kernel
theorem dX4_keep_52 : decode cX4_keep 52 = .ok (.iadd, 1) := by decide +kernel
theorem dX4_keep_53 : decode cX4_keep 53 = .ok (.iaload, 1) := by decide +kernel
theorem dX4_keep_54 : decode cX4_keep 54 = .ok (.aload_n 0, 1) := by decide +kernel
theorem dX4_keep_55 : decode cX4_keep 55 = .ok (.getfield 93, 3) := by decide +kernel
theorem dX4_keep_58 : decode cX4_keep 58 = .ok (.iload_n 3, 1) := by decide +kernel
theorem dX4_keep_59 : decode cX4_keep 59 = .ok (.iaload, 1) := by decide +kernel
theorem dX4_keep_60 : decode cX4_keep 60 = .ok (.if_icmp .ne 7, 3) := by decide +kernel
theorem dX4_keep_63 : decode cX4_keep 63 = .ok (.iconst 1, 1) := by decide +kernel
theorem dX4_keep_64 : decode cX4_keep 64 = .ok (.goto 4, 3) := by decide +kernel
theorem dX4_keep_67 : decode cX4_keep 67 = .ok (.iconst 0, 1) := by decide +kernel
theorem dX4_keep_68 : decode cX4_keep 68 = .ok (.istore_n 2, 1) := by decide +kernel
theorem dX4_keep_69 : decode cX4_keep 69 = .ok (.iinc 3 1, 3) := by decide +kernel
theorem dX4_keep_72 : decode cX4_keep 72 = .ok (.goto (-41), 3) := by decide +kernel
theorem dX4_keep_75 : decode cX4_keep 75 = .ok (.iload_n 2, 1) := by decide +kernel
theorem dX4_keep_76 : decode cX4_keep 76 = .ok (.ifCond .eq 4, 3) := by decide +kernel
theorem dX4_keep_79 : decode cX4_keep 79 = .ok (.return_, 1) := by decide +kernel
theorem dX4_keep_80 : decode cX4_keep 80 = .ok (.iinc 1 1, 3) := by decide +kernel
theorem dX4_keep_83 : decode cX4_keep 83 = .ok (.goto (-81), 3) := by decide +kernel
theorem dX4_keep_86 : decode cX4_keep 86 = .ok (.aload_n 0, 1) := by decide +kernel
theorem dX4_keep_87 : decode cX4_keep 87 = .ok (.getfield 182, 3) := by decide +kernel
theorem dX4_keep_90 : decode cX4_keep 90 = .ok (.bipush 64, 2) := by decide +kernel
theorem dX4_keep_92 : decode cX4_keep 92 = .ok (.if_icmp .ge 62, 3) := by decide +kernel
theorem dX4_keep_95 : decode cX4_keep 95 = .ok (.aload_n 0, 1) := by decide +kernel
theorem dX4_keep_96 : decode cX4_keep 96 = .ok (.getfield 68, 3) := by decide +kernel
theorem dX4_keep_99 : decode cX4_keep 99 = .ok (.aload_n 0, 1) := by decide +kernel
theorem dX4_keep_100 : decode cX4_keep 100 = .ok (.getfield 182, 3) := by decide +kernel
theorem dX4_keep_103 : decode cX4_keep 103 = .ok (.aload_n 0, 1) := by decide +kernel
theorem dX4_keep_104 : decode cX4_keep 104 = .ok (.getfield 115, 3) := by decide +kernel
theorem dX4_keep_107 : decode cX4_keep 107 = .ok (.iastore, 1) := by decide +kernel
theorem dX4_keep_108 : decode cX4_keep 108 = .ok (.iconst 0, 1) := by decide +kernel
theorem dX4_keep_109 : decode cX4_keep 109 = .ok (.istore_n 1, 1) := by decide +kernel
theorem dX4_keep_110 : decode cX4_keep 110 = .ok (.iload_n 1, 1) := by decide +kernel
theorem dX4_keep_111 : decode cX4_keep 111 = .ok (.aload_n 0, 1) := by decide +kernel
theorem dX4_keep_112 : decode cX4_keep 112 = .ok (.getfield 115, 3) := by decide +kernel
theorem dX4_keep_115 : decode cX4_keep 115 = .ok (.if_icmp .ge 29, 3) := by decide +kernel
theorem dX4_keep_118 : decode cX4_keep 118 = .ok (.aload_n 0, 1) := by decide +kernel
theorem dX4_keep_119 : decode cX4_keep 119 = .ok (.getfield 71, 3) := by decide +kernel
theorem dX4_keep_122 : decode cX4_keep 122 = .ok (.bipush 30, 2) := by decide +kernel
theorem dX4_keep_124 : decode cX4_keep 124 = .ok (.aload_n 0, 1) := by decide +kernel
theorem dX4_keep_125 : decode cX4_keep 125 = .ok (.getfield 182, 3) := by decide +kernel
theorem dX4_keep_128 : decode cX4_keep 128 = .ok (.imul, 1) := by decide +kernel
theorem dX4_keep_129 : decode cX4_keep 129 = .ok (.iload_n 1, 1) := by decide +kernel
theorem dX4_keep_130 : decode cX4_keep 130 = .ok (.iadd, 1) := by decide +kernel
theorem dX4_keep_131 : decode cX4_keep 131 = .ok (.aload_n 0, 1) := by decide +kernel
theorem dX4_keep_132 : decode cX4_keep 132 = .ok (.getfield 93, 3) := by decide +kernel
theorem dX4_keep_135 : decode cX4_keep 135 = .ok (.iload_n 1, 1) := by decide +kernel
theorem dX4_keep_136 : decode cX4_keep 136 = .ok (.iaload, 1) := by decide +kernel
theorem dX4_keep_137 : decode cX4_keep 137 = .ok (.iastore, 1) := by decide +kernel
theorem dX4_keep_138 : decode cX4_keep 138 = .ok (.iinc 1 1, 3) := by decide +kernel
theorem dX4_keep_141 : decode cX4_keep 141 = .ok (.goto (-31), 3) := by decide +kernel
theorem dX4_keep_144 : decode cX4_keep 144 = .ok (.aload_n 0, 1) := by decide +kernel
theorem dX4_keep_145 : decode cX4_keep 145 = .ok (.dup, 1) := by decide +kernel
theorem dX4_keep_146 : decode cX4_keep 146 = .ok (.getfield 182, 3) := by decide +kernel
theorem dX4_keep_149 : decode cX4_keep 149 = .ok (.iconst 1, 1) := by decide +kernel
theorem dX4_keep_150 : decode cX4_keep 150 = .ok (.iadd, 1) := by decide +kernel
theorem dX4_keep_151 : decode cX4_keep 151 = .ok (.putfield 182, 3) := by decide +kernel
theorem dX4_keep_154 : decode cX4_keep 154 = .ok (.return_, 1) := by decide +kernel
theorem dX4_isEmpty_0 : decode cX4_isEmpty 0 = .ok (.iconst 1, 1) := by decide +kernel
theorem dX4_isEmpty_1 : decode cX4_isEmpty 1 = .ok (.istore_n 3, 1) := by decide +kernel
theorem dX4_isEmpty_2 : decode cX4_isEmpty 2 = .ok (.iconst 0, 1) := by decide +kernel
theorem dX4_isEmpty_3 : decode cX4_isEmpty 3 = .ok (.istore 4, 2) := by decide +kernel
theorem dX4_isEmpty_5 : decode cX4_isEmpty 5 = .ok (.iload 4, 2) := by decide +kernel
theorem dX4_isEmpty_7 : decode cX4_isEmpty 7 = .ok (.aload_n 0, 1) := by decide +kernel
theorem dX4_isEmpty_8 : decode cX4_isEmpty 8 = .ok (.getfield 144, 3) := by decide +kernel
theorem dX4_isEmpty_11 : decode cX4_isEmpty 11 = .ok (.if_icmp .ge 51, 3) := by decide +kernel
theorem dX4_isEmpty_14 : decode cX4_isEmpty 14 = .ok (.iload_n 3, 1) := by decide +kernel
theorem dX4_isEmpty_15 : decode cX4_isEmpty 15 = .ok (.ifCond .eq 39, 3) := by decide +kernel
theorem dX4_isEmpty_18 : decode cX4_isEmpty 18 = .ok (.aload_n 0, 1) := by decide +kernel
theorem dX4_isEmpty_19 : decode cX4_isEmpty 19 = .ok (.getfield 50, 3) := by decide +kernel
theorem dX4_isEmpty_22 : decode cX4_isEmpty 22 = .ok (.aload_n 0, 1) := by decide +kernel
theorem dX4_isEmpty_23 : decode cX4_isEmpty 23 = .ok (.getfield 41, 3) := by decide +kernel
theorem dX4_isEmpty_26 : decode cX4_isEmpty 26 = .ok (.iload 4, 2) := by decide +kernel
theorem dX4_isEmpty_28 : decode cX4_isEmpty 28 = .ok (.iaload, 1) := by decide +kernel
theorem dX4_isEmpty_29 : decode cX4_isEmpty 29 = .ok (.iaload, 1) := by decide +kernel
theorem dX4_isEmpty_30 : decode cX4_isEmpty 30 = .ok (.iload_n 1, 1) := by decide +kernel
theorem dX4_isEmpty_31 : decode cX4_isEmpty 31 = .ok (.if_icmp .ne 19, 3) := by decide +kernel
theorem dX4_isEmpty_34 : decode cX4_isEmpty 34 = .ok (.aload_n 0, 1) := by decide +kernel
theorem dX4_isEmpty_35 : decode cX4_isEmpty 35 = .ok (.getfield 53, 3) := by decide +kernel
theorem dX4_isEmpty_38 : decode cX4_isEmpty 38 = .ok (.aload_n 0, 1) := by decide +kernel
theorem dX4_isEmpty_39 : decode cX4_isEmpty 39 = .ok (.getfield 41, 3) := by decide +kernel
theorem dX4_isEmpty_42 : decode cX4_isEmpty 42 = .ok (.iload 4, 2) := by decide +kernel
theorem dX4_isEmpty_44 : decode cX4_isEmpty 44 = .ok (.iaload, 1) := by decide +kernel
theorem dX4_isEmpty_45 : decode cX4_isEmpty 45 = .ok (.iaload, 1) := by decide +kernel
theorem dX4_isEmpty_46 : decode cX4_isEmpty 46 = .ok (.iload_n 2, 1) := by decide +kernel
theorem dX4_isEmpty_47 : decode cX4_isEmpty 47 = .ok (.if_icmp .eq 7, 3) := by decide +kernel
theorem dX4_isEmpty_50 : decode cX4_isEmpty 50 = .ok (.iconst 1, 1) := by decide +kernel
theorem dX4_isEmpty_51 : decode cX4_isEmpty 51 = .ok (.goto 4, 3) := by decide +kernel
theorem dX4_isEmpty_54 : decode cX4_isEmpty 54 = .ok (.iconst 0, 1) := by decide +kernel
theorem dX4_isEmpty_55 : decode cX4_isEmpty 55 = .ok (.istore_n 3, 1) := by decide +kernel
theorem dX4_isEmpty_56 : decode cX4_isEmpty 56 = .ok (.iinc 4 1, 3) := by decide +kernel
theorem dX4_isEmpty_59 : decode cX4_isEmpty 59 = .ok (.goto (-54), 3) := by decide +kernel
theorem dX4_isEmpty_62 : decode cX4_isEmpty 62 = .ok (.iload_n 3, 1) := by decide +kernel
theorem dX4_isEmpty_63 : decode cX4_isEmpty 63 = .ok (.ireturn, 1) := by decide +kernel
theorem dX4_told_0 : decode cX4_told 0 = .ok (.iload_n 1, 1) := by decide +kernel
theorem dX4_told_1 : decode cX4_told 1 = .ok (.iconst 5, 1) := by decide +kernel
theorem dX4_told_2 : decode cX4_told 2 = .ok (.if_icmp .ne 16, 3) := by decide +kernel
theorem dX4_told_5 : decode cX4_told 5 = .ok (.aload_n 0, 1) := by decide +kernel
theorem dX4_told_6 : decode cX4_told 6 = .ok (.getfield 140, 3) := by decide +kernel
theorem dX4_told_9 : decode cX4_told 9 = .ok (.ifCond .eq 7, 3) := by decide +kernel
theorem dX4_told_12 : decode cX4_told 12 = .ok (.iconst 1, 1) := by decide +kernel
theorem dX4_told_13 : decode cX4_told 13 = .ok (.goto 4, 3) := by decide +kernel
theorem dX4_told_16 : decode cX4_told 16 = .ok (.iconst 0, 1) := by decide +kernel
theorem dX4_told_17 : decode cX4_told 17 = .ok (.ireturn, 1) := by decide +kernel
theorem dX4_told_18 : decode cX4_told 18 = .ok (.iload_n 1, 1) := by decide +kernel
theorem dX4_told_19 : decode cX4_told 19 = .ok (.ifCond .ne 10, 3) := by decide +kernel
theorem dX4_told_22 : decode cX4_told 22 = .ok (.aload_n 0, 1) := by decide +kernel
theorem dX4_told_23 : decode cX4_told 23 = .ok (.getfield 118, 3) := by decide +kernel
theorem dX4_told_26 : decode cX4_told 26 = .ok (.goto 65, 3) := by decide +kernel
theorem dX4_told_29 : decode cX4_told 29 = .ok (.iload_n 1, 1) := by decide +kernel
theorem dX4_told_30 : decode cX4_told 30 = .ok (.iconst 1, 1) := by decide +kernel
theorem dX4_told_31 : decode cX4_told 31 = .ok (.if_icmp .ne 10, 3) := by decide +kernel
theorem dX4_told_34 : decode cX4_told 34 = .ok (.aload_n 0, 1) := by decide +kernel
theorem dX4_told_35 : decode cX4_told 35 = .ok (.getfield 115, 3) := by decide +kernel
theorem dX4_told_38 : decode cX4_told 38 = .ok (.goto 53, 3) := by decide +kernel
theorem dX4_told_41 : decode cX4_told 41 = .ok (.iload_n 1, 1) := by decide +kernel
theorem dX4_told_42 : decode cX4_told 42 = .ok (.iconst 2, 1) := by decide +kernel
theorem dX4_told_43 : decode cX4_told 43 = .ok (.if_icmp .ne 10, 3) := by decide +kernel
theorem dX4_told_46 : decode cX4_told 46 = .ok (.aload_n 0, 1) := by decide +kernel
theorem dX4_told_47 : decode cX4_told 47 = .ok (.getfield 131, 3) := by decide +kernel
theorem dX4_told_50 : decode cX4_told 50 = .ok (.goto 41, 3) := by decide +kernel
theorem dX4_told_53 : decode cX4_told 53 = .ok (.iload_n 1, 1) := by decide +kernel
theorem dX4_told_54 : decode cX4_told 54 = .ok (.iconst 3, 1) := by decide +kernel
theorem dX4_told_55 : decode cX4_told 55 = .ok (.if_icmp .ne 10, 3) := by decide +kernel
theorem dX4_told_58 : decode cX4_told 58 = .ok (.aload_n 0, 1) := by decide +kernel
theorem dX4_told_59 : decode cX4_told 59 = .ok (.getfield 182, 3) := by decide +kernel
theorem dX4_told_62 : decode cX4_told 62 = .ok (.goto 29, 3) := by decide +kernel
theorem dX4_told_65 : decode cX4_told 65 = .ok (.iload_n 1, 1) := by decide +kernel
theorem dX4_told_66 : decode cX4_told 66 = .ok (.iconst 4, 1) := by decide +kernel
theorem dX4_told_67 : decode cX4_told 67 = .ok (.if_icmp .ne 10, 3) := by decide +kernel
theorem dX4_told_70 : decode cX4_told 70 = .ok (.aload_n 0, 1) := by decide +kernel
theorem dX4_told_71 : decode cX4_told 71 = .ok (.getfield 134, 3) := by decide +kernel
theorem dX4_told_74 : decode cX4_told 74 = .ok (.goto 17, 3) := by decide +kernel
theorem dX4_told_77 : decode cX4_told 77 = .ok (.iload_n 1, 1) := by decide +kernel
theorem dX4_told_78 : decode cX4_told 78 = .ok (.bipush 6, 2) := by decide +kernel
theorem dX4_told_80 : decode cX4_told 80 = .ok (.if_icmp .ne 10, 3) := by decide +kernel
theorem dX4_told_83 : decode cX4_told 83 = .ok (.aload_n 0, 1) := by decide +kernel
theorem dX4_told_84 : decode cX4_told 84 = .ok (.getfield 111, 3) := by decide +kernel
theorem dX4_told_87 : decode cX4_told 87 = .ok (.goto 4, 3) := by decide +kernel
theorem dX4_told_90 : decode cX4_told 90 = .ok (.iconst (-1), 1) := by decide +kernel
theorem dX4_told_91 : decode cX4_told 91 = .ok (.ireturn, 1) := by decide +kernel
theorem dX4_best_0 : decode cX4_best 0 = .ok (.iload_n 1, 1) := by decide +kernel
theorem dX4_best_1 : decode cX4_best 1 = .ok (.ifCond .lt 8, 3) := by decide +kernel
theorem dX4_best_4 : decode cX4_best 4 = .ok (.iload_n 1, 1) := by decide +kernel
theorem dX4_best_5 : decode cX4_best 5 = .ok (.iconst 4, 1) := by decide +kernel
theorem dX4_best_6 : decode cX4_best 6 = .ok (.if_icmp .le 5, 3) := by decide +kernel
theorem dX4_best_9 : decode cX4_best 9 = .ok (.iconst (-1), 1) := by decide +kernel
theorem dX4_best_10 : decode cX4_best 10 = .ok (.ireturn, 1) := by decide +kernel
theorem dX4_best_11 : decode cX4_best 11 = .ok (.iload_n 1, 1) := by decide +kernel
theorem dX4_best_12 : decode cX4_best 12 = .ok (.iconst 3, 1) := by decide +kernel
theorem dX4_best_13 : decode cX4_best 13 = .ok (.if_icmp .ge 45, 3) := by decide +kernel
theorem dX4_best_16 : decode cX4_best 16 = .ok (.aload_n 0, 1) := by decide +kernel
theorem dX4_best_17 : decode cX4_best 17 = .ok (.getfield 137, 3) := by decide +kernel
theorem dX4_best_20 : decode cX4_best 20 = .ok (.bipush (-9), 2) := by decide +kernel
theorem dX4_best_22 : decode cX4_best 22 = .ok (.if_icmp .ne 8, 3) := by decide +kernel
theorem dX4_best_25 : decode cX4_best 25 = .ok (.bipush (-9), 2) := by decide +kernel
theorem dX4_best_27 : decode cX4_best 27 = .ok (.goto 30, 3) := by decide +kernel
theorem dX4_best_30 : decode cX4_best 30 = .ok (.iload_n 1, 1) := by decide +kernel
theorem dX4_best_31 : decode cX4_best 31 = .ok (.ifCond .ne 10, 3) := by decide +kernel
theorem dX4_best_34 : decode cX4_best 34 = .ok (.aload_n 0, 1) := by decide +kernel
theorem dX4_best_35 : decode cX4_best 35 = .ok (.getfield 235, 3) := by decide +kernel
theorem dX4_best_38 : decode cX4_best 38 = .ok (.goto 19, 3) := by decide +kernel
theorem dX4_best_41 : decode cX4_best 41 = .ok (.iload_n 1, 1) := by decide +kernel
theorem dX4_best_42 : decode cX4_best 42 = .ok (.iconst 1, 1) := by decide +kernel
theorem dX4_best_43 : decode cX4_best 43 = .ok (.if_icmp .ne 10, 3) := by decide +kernel
theorem dX4_best_46 : decode cX4_best 46 = .ok (.aload_n 0, 1) := by decide +kernel
theorem dX4_best_47 : decode cX4_best 47 = .ok (.getfield 238, 3) := by decide +kernel
theorem dX4_best_50 : decode cX4_best 50 = .ok (.goto 7, 3) := by decide +kernel
theorem dX4_best_53 : decode cX4_best 53 = .ok (.aload_n 0, 1) := by decide +kernel
theorem dX4_best_54 : decode cX4_best 54 = .ok (.getfield 137, 3) := by decide +kernel
theorem dX4_best_57 : decode cX4_best 57 = .ok (.ireturn, 1) := by decide +kernel
theorem dX4_best_58 : decode cX4_best 58 = .ok (.aload_n 0, 1) := by decide +kernel
theorem dX4_best_59 : decode cX4_best 59 = .ok (.getfield 137, 3) := by decide +kernel
theorem dX4_best_62 : decode cX4_best 62 = .ok (.bipush (-9), 2) := by decide +kernel
theorem dX4_best_64 : decode cX4_best 64 = .ok (.if_icmp .eq 11, 3) := by decide +kernel
theorem dX4_best_67 : decode cX4_best 67 = .ok (.aload_n 0, 1) := by decide +kernel
theorem dX4_best_68 : decode cX4_best 68 = .ok (.iload_n 2, 1) := by decide +kernel
theorem dX4_best_69 : decode cX4_best 69 = .ok (.invokevirtual 185, 3) := by decide +kernel
theorem dX4_best_72 : decode cX4_best 72 = .ok (.ifCond .ne 9, 3) := by decide +kernel
theorem dX4_best_75 : decode cX4_best 75 = .ok (.sipush (-1000), 3) := by decide +kernel
theorem dX4_best_78 : decode cX4_best 78 = .ok (.goto 23, 3) := by decide +kernel
theorem dX4_best_81 : decode cX4_best 81 = .ok (.iload_n 1, 1) := by decide +kernel
theorem dX4_best_82 : decode cX4_best 82 = .ok (.iconst 3, 1) := by decide +kernel
theorem dX4_best_83 : decode cX4_best 83 = .ok (.if_icmp .ne 12, 3) := by decide +kernel
theorem dX4_best_86 : decode cX4_best 86 = .ok (.aload_n 0, 1) := by decide +kernel
theorem dX4_best_87 : decode cX4_best 87 = .ok (.getfield 62, 3) := by decide +kernel
theorem dX4_best_90 : decode cX4_best 90 = .ok (.iload_n 2, 1) := by decide +kernel
theorem dX4_best_91 : decode cX4_best 91 = .ok (.iaload, 1) := by decide +kernel
theorem dX4_best_92 : decode cX4_best 92 = .ok (.goto 9, 3) := by decide +kernel
theorem dX4_best_95 : decode cX4_best 95 = .ok (.aload_n 0, 1) := by decide +kernel
theorem dX4_best_96 : decode cX4_best 96 = .ok (.getfield 65, 3) := by decide +kernel
theorem dX4_best_99 : decode cX4_best 99 = .ok (.iload_n 2, 1) := by decide +kernel
theorem dX4_best_100 : decode cX4_best 100 = .ok (.iaload, 1) := by decide +kernel
theorem dX4_best_101 : decode cX4_best 101 = .ok (.ireturn, 1) := by decide +kernel
theorem dX4_shape_0 : decode cX4_shape 0 = .ok (.aload_n 0, 1) := by decide +kernel
theorem dX4_shape_1 : decode cX4_shape 1 = .ok (.iload_n 1, 1) := by decide +kernel
theorem dX4_shape_2 : decode cX4_shape 2 = .ok (.invokevirtual 250, 3) := by decide +kernel
theorem dX4_shape_5 : decode cX4_shape 5 = .ok (.ifCond .eq 26, 3) := by decide +kernel
theorem dX4_shape_8 : decode cX4_shape 8 = .ok (.iload_n 2, 1) := by decide +kernel
theorem dX4_shape_9 : decode cX4_shape 9 = .ok (.ifCond .lt 22, 3) := by decide +kernel
theorem dX4_shape_12 : decode cX4_shape 12 = .ok (.iload_n 2, 1) := by decide +kernel
theorem dX4_shape_13 : decode cX4_shape 13 = .ok (.aload_n 0, 1) := by decide +kernel
theorem dX4_shape_14 : decode cX4_shape 14 = .ok (.getfield 68, 3) := by decide +kernel
theorem dX4_shape_17 : decode cX4_shape 17 = .ok (.iload_n 1, 1) := by decide +kernel
theorem dX4_shape_18 : decode cX4_shape 18 = .ok (.iaload, 1) := by decide +kernel
theorem dX4_shape_19 : decode cX4_shape 19 = .ok (.if_icmp .ge 12, 3) := by decide +kernel
theorem dX4_shape_22 : decode cX4_shape 22 = .ok (.iload_n 3, 1) := by decide +kernel
theorem dX4_shape_23 : decode cX4_shape 23 = .ok (.ifCond .lt 8, 3) := by decide +kernel
theorem dX4_shape_26 : decode cX4_shape 26 = .ok (.iload_n 3, 1) := by decide +kernel
theorem dX4_shape_27 : decode cX4_shape 27 = .ok (.iconst 1, 1) := by decide +kernel
theorem dX4_shape_28 : decode cX4_shape 28 = .ok (.if_icmp .le 5, 3) := by decide +kernel
theorem dX4_shape_31 : decode cX4_shape 31 = .ok (.iconst (-1), 1) := by decide +kernel
theorem dX4_shape_32 : decode cX4_shape 32 = .ok (.ireturn, 1) := by decide +kernel
theorem dX4_shape_33 : decode cX4_shape 33 = .ok (.iload_n 3, 1) := by decide +kernel
theorem dX4_shape_34 : decode cX4_shape 34 = .ok (.ifCond .ne 20, 3) := by decide +kernel
theorem dX4_shape_37 : decode cX4_shape 37 = .ok (.aload_n 0, 1) := by decide +kernel
theorem dX4_shape_38 : decode cX4_shape 38 = .ok (.getfield 71, 3) := by decide +kernel
theorem dX4_shape_41 : decode cX4_shape 41 = .ok (.bipush 30, 2) := by decide +kernel
theorem dX4_shape_43 : decode cX4_shape 43 = .ok (.iload_n 1, 1) := by decide +kernel
theorem dX4_shape_44 : decode cX4_shape 44 = .ok (.imul, 1) := by decide +kernel
theorem dX4_shape_45 : decode cX4_shape 45 = .ok (.iload_n 2, 1) := by decide +kernel
theorem dX4_shape_46 : decode cX4_shape 46 = .ok (.iadd, 1) := by decide +kernel
theorem dX4_shape_47 : decode cX4_shape 47 = .ok (.iaload, 1) := by decide +kernel
theorem dX4_shape_48 : decode cX4_shape 48 = .ok (.bipush 32, 2) := by decide +kernel
theorem dX4_shape_50 : decode cX4_shape 50 = .ok (.irem, 1) := by decide +kernel
theorem dX4_shape_51 : decode cX4_shape 51 = .ok (.goto 17, 3) := by decide +kernel
theorem dX4_shape_54 : decode cX4_shape 54 = .ok (.aload_n 0, 1) := by decide +kernel
theorem dX4_shape_55 : decode cX4_shape 55 = .ok (.getfield 71, 3) := by decide +kernel
theorem dX4_shape_58 : decode cX4_shape 58 = .ok (.bipush 30, 2) := by decide +kernel
theorem dX4_shape_60 : decode cX4_shape 60 = .ok (.iload_n 1, 1) := by decide +kernel
theorem dX4_shape_61 : decode cX4_shape 61 = .ok (.imul, 1) := by decide +kernel
theorem dX4_shape_62 : decode cX4_shape 62 = .ok (.iload_n 2, 1) := by decide +kernel
theorem dX4_shape_63 : decode cX4_shape 63 = .ok (.iadd, 1) := by decide +kernel
theorem dX4_shape_64 : decode cX4_shape 64 = .ok (.iaload, 1) := by decide +kernel
theorem dX4_shape_65 : decode cX4_shape 65 = .ok (.bipush 32, 2) := by decide +kernel
theorem dX4_shape_67 : decode cX4_shape 67 = .ok (.idiv, 1) := by decide +kernel
theorem dX4_shape_68 : decode cX4_shape 68 = .ok (.ireturn, 1) := by decide +kernel
theorem dX4_isShape_0 : decode cX4_isShape 0 = .ok (.iload_n 1, 1) := by decide +kernel
theorem dX4_isShape_1 : decode cX4_isShape 1 = .ok (.ifCond .lt 15, 3) := by decide +kernel
theorem dX4_isShape_4 : decode cX4_isShape 4 = .ok (.iload_n 1, 1) := by decide +kernel
theorem dX4_isShape_5 : decode cX4_isShape 5 = .ok (.aload_n 0, 1) := by decide +kernel
theorem dX4_isShape_6 : decode cX4_isShape 6 = .ok (.getfield 182, 3) := by decide +kernel
theorem dX4_isShape_9 : decode cX4_isShape 9 = .ok (.if_icmp .ge 7, 3) := by decide +kernel
theorem dX4_isShape_12 : decode cX4_isShape 12 = .ok (.iconst 1, 1) := by decide +kernel
theorem dX4_isShape_13 : decode cX4_isShape 13 = .ok (.goto 4, 3) := by decide +kernel
theorem dX4_isShape_16 : decode cX4_isShape 16 = .ok (.iconst 0, 1) := by decide +kernel
theorem dX4_isShape_17 : decode cX4_isShape 17 = .ok (.ireturn, 1) := by decide +kernel
theorem dX4_size_0 : decode cX4_size 0 = .ok (.aload_n 0, 1) := by decide +kernel
theorem dX4_size_1 : decode cX4_size 1 = .ok (.iload_n 1, 1) := by decide +kernel
theorem dX4_size_2 : decode cX4_size 2 = .ok (.invokevirtual 250, 3) := by decide +kernel
theorem dX4_size_5 : decode cX4_size 5 = .ok (.ifCond .eq 12, 3) := by decide +kernel
theorem dX4_size_8 : decode cX4_size 8 = .ok (.aload_n 0, 1) := by decide +kernel
theorem dX4_size_9 : decode cX4_size 9 = .ok (.getfield 68, 3) := by decide +kernel
theorem dX4_size_12 : decode cX4_size 12 = .ok (.iload_n 1, 1) := by decide +kernel
theorem dX4_size_13 : decode cX4_size 13 = .ok (.iaload, 1) := by decide +kernel
theorem dX4_size_14 : decode cX4_size 14 = .ok (.goto 4, 3) := by decide +kernel
theorem dX4_size_17 : decode cX4_size 17 = .ok (.iconst (-1), 1) := by decide +kernel
theorem dX4_size_18 : decode cX4_size 18 = .ok (.ireturn, 1) := by decide +kernel
theorem dX4_wraps_0 : decode cX4_wraps 0 = .ok (.aload_n 0, 1) := by decide +kernel
theorem dX4_wraps_1 : decode cX4_wraps 1 = .ok (.iload_n 1, 1) := by decide +kernel
theorem dX4_wraps_2 : decode cX4_wraps 2 = .ok (.invokevirtual 250, 3) := by decide +kernel
theorem dX4_wraps_5 : decode cX4_wraps 5 = .ok (.ifCond .ne 5, 3) := by decide +kernel
theorem dX4_wraps_8 : decode cX4_wraps 8 = .ok (.iconst (-1), 1) := by decide +kernel
theorem dX4_wraps_9 : decode cX4_wraps 9 = .ok (.ireturn, 1) := by decide +kernel
theorem dX4_wraps_10 : decode cX4_wraps 10 = .ok (.aload_n 0, 1) := by decide +kernel
theorem dX4_wraps_11 : decode cX4_wraps 11 = .ok (.getfield 118, 3) := by decide +kernel
theorem dX4_wraps_14 : decode cX4_wraps 14 = .ok (.ifCond .ne 6, 3) := by decide +kernel
theorem dX4_wraps_17 : decode cX4_wraps 17 = .ok (.bipush (-2), 2) := by decide +kernel
theorem dX4_wraps_19 : decode cX4_wraps 19 = .ok (.ireturn, 1) := by decide +kernel
theorem dX4_wraps_20 : decode cX4_wraps 20 = .ok (.iconst 0, 1) := by decide +kernel
theorem dX4_wraps_21 : decode cX4_wraps 21 = .ok (.istore_n 2, 1) := by decide +kernel
theorem dX4_wraps_22 : decode cX4_wraps 22 = .ok (.iconst 0, 1) := by decide +kernel
theorem dX4_wraps_23 : decode cX4_wraps 23 = .ok (.istore_n 3, 1) := by decide +kernel
theorem dX4_wraps_24 : decode cX4_wraps 24 = .ok (.iload_n 3, 1) := by decide +kernel
theorem dX4_wraps_25 : decode cX4_wraps 25 = .ok (.aload_n 0, 1) := by decide +kernel
theorem dX4_wraps_26 : decode cX4_wraps 26 = .ok (.getfield 115, 3) := by decide +kernel
theorem dX4_wraps_29 : decode cX4_wraps 29 = .ok (.if_icmp .ge 57, 3) := by decide +kernel
theorem dX4_wraps_32 : decode cX4_wraps 32 = .ok (.aload_n 0, 1) := by decide +kernel
theorem dX4_wraps_33 : decode cX4_wraps 33 = .ok (.getfield 68, 3) := by decide +kernel
theorem dX4_wraps_36 : decode cX4_wraps 36 = .ok (.iload_n 1, 1) := by decide +kernel
theorem dX4_wraps_37 : decode cX4_wraps 37 = .ok (.iaload, 1) := by decide +kernel
theorem dX4_wraps_38 : decode cX4_wraps 38 = .ok (.aload_n 0, 1) := by decide +kernel
theorem dX4_wraps_39 : decode cX4_wraps 39 = .ok (.getfield 115, 3) := by decide +kernel
theorem dX4_wraps_42 : decode cX4_wraps 42 = .ok (.if_icmp .ne 44, 3) := by decide +kernel
theorem dX4_wraps_45 : decode cX4_wraps 45 = .ok (.iconst 0, 1) := by decide +kernel
theorem dX4_wraps_46 : decode cX4_wraps 46 = .ok (.istore 4, 2) := by decide +kernel
theorem dX4_wraps_48 : decode cX4_wraps 48 = .ok (.iload 4, 2) := by decide +kernel
theorem dX4_wraps_50 : decode cX4_wraps 50 = .ok (.bipush 8, 2) := by decide +kernel
theorem dX4_wraps_52 : decode cX4_wraps 52 = .ok (.if_icmp .ge 28, 3) := by decide +kernel
theorem dX4_wraps_55 : decode cX4_wraps 55 = .ok (.iload_n 2, 1) := by decide +kernel
theorem dX4_wraps_56 : decode cX4_wraps 56 = .ok (.aload_n 0, 1) := by decide +kernel
theorem dX4_wraps_57 : decode cX4_wraps 57 = .ok (.iload_n 1, 1) := by decide +kernel
theorem dX4_wraps_58 : decode cX4_wraps 58 = .ok (.iload_n 3, 1) := by decide +kernel
theorem dX4_wraps_59 : decode cX4_wraps 59 = .ok (.iload 4, 2) := by decide +kernel
theorem dX4_wraps_61 : decode cX4_wraps 61 = .ok (.invokevirtual 256, 3) := by decide +kernel
theorem dX4_wraps_64 : decode cX4_wraps 64 = .ok (.ifCond .eq 7, 3) := by decide +kernel
theorem dX4_wraps_67 : decode cX4_wraps 67 = .ok (.iconst 1, 1) := by decide +kernel
theorem dX4_wraps_68 : decode cX4_wraps 68 = .ok (.goto 4, 3) := by decide +kernel
theorem dX4_wraps_71 : decode cX4_wraps 71 = .ok (.iconst 0, 1) := by decide +kernel
theorem dX4_wraps_72 : decode cX4_wraps 72 = .ok (.iadd, 1) := by decide +kernel
theorem dX4_wraps_73 : decode cX4_wraps 73 = .ok (.istore_n 2, 1) := by decide +kernel
theorem dX4_wraps_74 : decode cX4_wraps 74 = .ok (.iinc 4 1, 3) := by decide +kernel
theorem dX4_wraps_77 : decode cX4_wraps 77 = .ok (.goto (-29), 3) := by decide +kernel
theorem dX4_wraps_80 : decode cX4_wraps 80 = .ok (.iinc 3 1, 3) := by decide +kernel
theorem dX4_wraps_83 : decode cX4_wraps 83 = .ok (.goto (-59), 3) := by decide +kernel
theorem dX4_wraps_86 : decode cX4_wraps 86 = .ok (.iload_n 2, 1) := by decide +kernel
theorem dX4_wraps_87 : decode cX4_wraps 87 = .ok (.ireturn, 1) := by decide +kernel
theorem dX4_isWrapped_0 : decode cX4_isWrapped 0 = .ok (.aload_n 0, 1) := by decide +kernel
theorem dX4_isWrapped_1 : decode cX4_isWrapped 1 = .ok (.getfield 68, 3) := by decide +kernel
theorem dX4_isWrapped_4 : decode cX4_isWrapped 4 = .ok (.iload_n 1, 1) := by decide +kernel
theorem dX4_isWrapped_5 : decode cX4_isWrapped 5 = .ok (.iaload, 1) := by decide +kernel
theorem dX4_isWrapped_6 : decode cX4_isWrapped 6 = .ok (.istore 4, 2) := by decide +kernel
theorem dX4_isWrapped_8 : decode cX4_isWrapped 8 = .ok (.iconst 0, 1) := by decide +kernel
theorem dX4_isWrapped_9 : decode cX4_isWrapped 9 = .ok (.istore 5, 2) := by decide +kernel
theorem dX4_isWrapped_11 : decode cX4_isWrapped 11 = .ok (.iload 5, 2) := by decide +kernel
theorem dX4_isWrapped_13 : decode cX4_isWrapped 13 = .ok (.iload 4, 2) := by decide +kernel
theorem dX4_isWrapped_15 : decode cX4_isWrapped 15 = .ok (.if_icmp .ge 82, 3) := by decide +kernel
theorem dX4_isWrapped_18 : decode cX4_isWrapped 18 = .ok (.aload_n 0, 1) := by decide +kernel
theorem dX4_isWrapped_19 : decode cX4_isWrapped 19 = .ok (.getfield 71, 3) := by decide +kernel
theorem dX4_isWrapped_22 : decode cX4_isWrapped 22 = .ok (.bipush 30, 2) := by decide +kernel
theorem dX4_isWrapped_24 : decode cX4_isWrapped 24 = .ok (.iload_n 1, 1) := by decide +kernel
theorem dX4_isWrapped_25 : decode cX4_isWrapped 25 = .ok (.imul, 1) := by decide +kernel
theorem dX4_isWrapped_26 : decode cX4_isWrapped 26 = .ok (.iload 5, 2) := by decide +kernel
theorem dX4_isWrapped_28 : decode cX4_isWrapped 28 = .ok (.iadd, 1) := by decide +kernel
theorem dX4_isWrapped_29 : decode cX4_isWrapped 29 = .ok (.iaload, 1) := by decide +kernel
theorem dX4_isWrapped_30 : decode cX4_isWrapped 30 = .ok (.bipush 32, 2) := by decide +kernel
theorem dX4_isWrapped_32 : decode cX4_isWrapped 32 = .ok (.irem, 1) := by decide +kernel
theorem dX4_isWrapped_33 : decode cX4_isWrapped 33 = .ok (.istore 6, 2) := by decide +kernel
theorem dX4_isWrapped_35 : decode cX4_isWrapped 35 = .ok (.aload_n 0, 1) := by decide +kernel
theorem dX4_isWrapped_36 : decode cX4_isWrapped 36 = .ok (.getfield 71, 3) := by decide +kernel
theorem dX4_isWrapped_39 : decode cX4_isWrapped 39 = .ok (.bipush 30, 2) := by decide +kernel
theorem dX4_isWrapped_41 : decode cX4_isWrapped 41 = .ok (.iload_n 1, 1) := by decide +kernel
theorem dX4_isWrapped_42 : decode cX4_isWrapped 42 = .ok (.imul, 1) := by decide +kernel
theorem dX4_isWrapped_43 : decode cX4_isWrapped 43 = .ok (.iload 5, 2) := by decide +kernel
theorem dX4_isWrapped_45 : decode cX4_isWrapped 45 = .ok (.iadd, 1) := by decide +kernel
theorem dX4_isWrapped_46 : decode cX4_isWrapped 46 = .ok (.iaload, 1) := by decide +kernel
theorem dX4_isWrapped_47 : decode cX4_isWrapped 47 = .ok (.bipush 32, 2) := by decide +kernel
theorem dX4_isWrapped_49 : decode cX4_isWrapped 49 = .ok (.idiv, 1) := by decide +kernel
theorem dX4_isWrapped_50 : decode cX4_isWrapped 50 = .ok (.istore 7, 2) := by decide +kernel
theorem dX4_isWrapped_52 : decode cX4_isWrapped 52 = .ok (.aload_n 0, 1) := by decide +kernel
theorem dX4_isWrapped_53 : decode cX4_isWrapped 53 = .ok (.getfield 84, 3) := by decide +kernel
theorem dX4_isWrapped_56 : decode cX4_isWrapped 56 = .ok (.iload 5, 2) := by decide +kernel
theorem dX4_isWrapped_58 : decode cX4_isWrapped 58 = .ok (.iload_n 3, 1) := by decide +kernel
theorem dX4_isWrapped_59 : decode cX4_isWrapped 59 = .ok (.iload 6, 2) := by decide +kernel
theorem dX4_isWrapped_61 : decode cX4_isWrapped 61 = .ok (.iload 7, 2) := by decide +kernel
theorem dX4_isWrapped_63 : decode cX4_isWrapped 63 = .ok (.invokestatic 241, 3) := by decide +kernel
theorem dX4_isWrapped_66 : decode cX4_isWrapped 66 = .ok (.iastore, 1) := by decide +kernel
theorem dX4_isWrapped_67 : decode cX4_isWrapped 67 = .ok (.aload_n 0, 1) := by decide +kernel
theorem dX4_isWrapped_68 : decode cX4_isWrapped 68 = .ok (.getfield 87, 3) := by decide +kernel
theorem dX4_isWrapped_71 : decode cX4_isWrapped 71 = .ok (.iload 5, 2) := by decide +kernel
theorem dX4_isWrapped_73 : decode cX4_isWrapped 73 = .ok (.iload_n 3, 1) := by decide +kernel
theorem dX4_isWrapped_74 : decode cX4_isWrapped 74 = .ok (.iload 6, 2) := by decide +kernel
theorem dX4_isWrapped_76 : decode cX4_isWrapped 76 = .ok (.iload 7, 2) := by decide +kernel
theorem dX4_isWrapped_78 : decode cX4_isWrapped 78 = .ok (.invokestatic 244, 3) := by decide +kernel
theorem dX4_isWrapped_81 : decode cX4_isWrapped 81 = .ok (.iastore, 1) := by decide +kernel
theorem dX4_isWrapped_82 : decode cX4_isWrapped 82 = .ok (.aload_n 0, 1) := by decide +kernel
theorem dX4_isWrapped_83 : decode cX4_isWrapped 83 = .ok (.getfield 96, 3) := by decide +kernel
theorem dX4_isWrapped_86 : decode cX4_isWrapped 86 = .ok (.iload 5, 2) := by decide +kernel
theorem dX4_isWrapped_88 : decode cX4_isWrapped 88 = .ok (.bipush (-9), 2) := by decide +kernel
theorem dX4_isWrapped_90 : decode cX4_isWrapped 90 = .ok (.iastore, 1) := by decide +kernel
theorem dX4_isWrapped_91 : decode cX4_isWrapped 91 = .ok (.iinc 5 1, 3) := by decide +kernel
theorem dX4_isWrapped_94 : decode cX4_isWrapped 94 = .ok (.goto (-83), 3) := by decide +kernel
theorem dX4_isWrapped_97 : decode cX4_isWrapped 97 = .ok (.aload_n 0, 1) := by decide +kernel
theorem dX4_isWrapped_98 : decode cX4_isWrapped 98 = .ok (.getfield 96, 3) := by decide +kernel
theorem dX4_isWrapped_101 : decode cX4_isWrapped 101 = .ok (.iconst 0, 1) := by decide +kernel
theorem dX4_isWrapped_102 : decode cX4_isWrapped 102 = .ok (.iload_n 2, 1) := by decide +kernel
theorem dX4_isWrapped_103 : decode cX4_isWrapped 103 = .ok (.iastore, 1) := by decide +kernel
theorem dX4_isWrapped_104 : decode cX4_isWrapped 104 = .ok (.aload_n 0, 1) := by decide +kernel
theorem dX4_isWrapped_105 : decode cX4_isWrapped 105 = .ok (.getfield 99, 3) := by decide +kernel
theorem dX4_isWrapped_108 : decode cX4_isWrapped 108 = .ok (.iconst 0, 1) := by decide +kernel
theorem dX4_isWrapped_109 : decode cX4_isWrapped 109 = .ok (.aload_n 0, 1) := by decide +kernel
theorem dX4_isWrapped_110 : decode cX4_isWrapped 110 = .ok (.getfield 22, 3) := by decide +kernel
theorem dX4_isWrapped_113 : decode cX4_isWrapped 113 = .ok (.iload_n 2, 1) := by decide +kernel
theorem dX4_isWrapped_114 : decode cX4_isWrapped 114 = .ok (.iaload, 1) := by decide +kernel
theorem dX4_isWrapped_115 : decode cX4_isWrapped 115 = .ok (.invokestatic 150, 3) := by decide +kernel
theorem dX4_isWrapped_118 : decode cX4_isWrapped 118 = .ok (.iastore, 1) := by decide +kernel
theorem dX4_isWrapped_119 : decode cX4_isWrapped 119 = .ok (.aload_n 0, 1) := by decide +kernel
theorem dX4_isWrapped_120 : decode cX4_isWrapped 120 = .ok (.getfield 102, 3) := by decide +kernel
theorem dX4_isWrapped_123 : decode cX4_isWrapped 123 = .ok (.iconst 0, 1) := by decide +kernel
theorem dX4_isWrapped_124 : decode cX4_isWrapped 124 = .ok (.aload_n 0, 1) := by decide +kernel
theorem dX4_isWrapped_125 : decode cX4_isWrapped 125 = .ok (.getfield 22, 3) := by decide +kernel
theorem dX4_isWrapped_128 : decode cX4_isWrapped 128 = .ok (.iload_n 2, 1) := by decide +kernel
theorem dX4_isWrapped_129 : decode cX4_isWrapped 129 = .ok (.iaload, 1) := by decide +kernel
theorem dX4_isWrapped_130 : decode cX4_isWrapped 130 = .ok (.invokestatic 154, 3) := by decide +kernel
theorem dX4_isWrapped_133 : decode cX4_isWrapped 133 = .ok (.iastore, 1) := by decide +kernel
theorem dX4_isWrapped_134 : decode cX4_isWrapped 134 = .ok (.aload_n 0, 1) := by decide +kernel
theorem dX4_isWrapped_135 : decode cX4_isWrapped 135 = .ok (.getfield 105, 3) := by decide +kernel
theorem dX4_isWrapped_138 : decode cX4_isWrapped 138 = .ok (.iconst 0, 1) := by decide +kernel
theorem dX4_isWrapped_139 : decode cX4_isWrapped 139 = .ok (.iconst 0, 1) := by decide +kernel
theorem dX4_isWrapped_140 : decode cX4_isWrapped 140 = .ok (.iastore, 1) := by decide +kernel
theorem dX4_isWrapped_141 : decode cX4_isWrapped 141 = .ok (.iconst 1, 1) := by decide +kernel
theorem dX4_isWrapped_142 : decode cX4_isWrapped 142 = .ok (.istore 5, 2) := by decide +kernel
theorem dX4_isWrapped_144 : decode cX4_isWrapped 144 = .ok (.iconst 0, 1) := by decide +kernel
theorem dX4_isWrapped_145 : decode cX4_isWrapped 145 = .ok (.istore 6, 2) := by decide +kernel
theorem dX4_isWrapped_147 : decode cX4_isWrapped 147 = .ok (.iload 6, 2) := by decide +kernel
theorem dX4_isWrapped_149 : decode cX4_isWrapped 149 = .ok (.iload 5, 2) := by decide +kernel
theorem dX4_isWrapped_151 : decode cX4_isWrapped 151 = .ok (.if_icmp .ge 256, 3) := by decide +kernel
theorem dX4_isWrapped_154 : decode cX4_isWrapped 154 = .ok (.aload_n 0, 1) := by decide +kernel
theorem dX4_isWrapped_155 : decode cX4_isWrapped 155 = .ok (.getfield 105, 3) := by decide +kernel
theorem dX4_isWrapped_158 : decode cX4_isWrapped 158 = .ok (.iload 6, 2) := by decide +kernel
theorem dX4_isWrapped_160 : decode cX4_isWrapped 160 = .ok (.iaload, 1) := by decide +kernel
theorem dX4_isWrapped_161 : decode cX4_isWrapped 161 = .ok (.istore 7, 2) := by decide +kernel
theorem dX4_isWrapped_163 : decode cX4_isWrapped 163 = .ok (.iconst 0, 1) := by decide +kernel
theorem dX4_isWrapped_164 : decode cX4_isWrapped 164 = .ok (.istore 8, 2) := by decide +kernel
theorem dX4_isWrapped_166 : decode cX4_isWrapped 166 = .ok (.iload 8, 2) := by decide +kernel
theorem dX4_isWrapped_168 : decode cX4_isWrapped 168 = .ok (.iconst 4, 1) := by decide +kernel
theorem dX4_isWrapped_169 : decode cX4_isWrapped 169 = .ok (.if_icmp .ge 232, 3) := by decide +kernel
theorem dX4_isWrapped_172 : decode cX4_isWrapped 172 = .ok (.aload_n 0, 1) := by decide +kernel
theorem dX4_isWrapped_173 : decode cX4_isWrapped 173 = .ok (.iload 4, 2) := by decide +kernel
theorem dX4_isWrapped_175 : decode cX4_isWrapped 175 = .ok (.aload_n 0, 1) := by decide +kernel
theorem dX4_isWrapped_176 : decode cX4_isWrapped 176 = .ok (.getfield 84, 3) := by decide +kernel
theorem dX4_isWrapped_179 : decode cX4_isWrapped 179 = .ok (.iload 7, 2) := by decide +kernel
theorem dX4_isWrapped_181 : decode cX4_isWrapped 181 = .ok (.iaload, 1) := by decide +kernel
theorem dX4_isWrapped_182 : decode cX4_isWrapped 182 = .ok (.iload 8, 2) := by decide +kernel
theorem dX4_isWrapped_184 : decode cX4_isWrapped 184 = .ok (.invokestatic 208, 3) := by decide +kernel
theorem dX4_isWrapped_187 : decode cX4_isWrapped 187 = .ok (.iadd, 1) := by decide +kernel
theorem dX4_isWrapped_188 : decode cX4_isWrapped 188 = .ok (.aload_n 0, 1) := by decide +kernel
theorem dX4_isWrapped_189 : decode cX4_isWrapped 189 = .ok (.getfield 87, 3) := by decide +kernel
theorem dX4_isWrapped_192 : decode cX4_isWrapped 192 = .ok (.iload 7, 2) := by decide +kernel
theorem dX4_isWrapped_194 : decode cX4_isWrapped 194 = .ok (.iaload, 1) := by decide +kernel
theorem dX4_isWrapped_195 : decode cX4_isWrapped 195 = .ok (.iload 8, 2) := by decide +kernel
theorem dX4_isWrapped_197 : decode cX4_isWrapped 197 = .ok (.invokestatic 211, 3) := by decide +kernel
theorem dX4_isWrapped_200 : decode cX4_isWrapped 200 = .ok (.iadd, 1) := by decide +kernel
theorem dX4_isWrapped_201 : decode cX4_isWrapped 201 = .ok (.invokevirtual 253, 3) := by decide +kernel
theorem dX4_isWrapped_204 : decode cX4_isWrapped 204 = .ok (.istore 9, 2) := by decide +kernel
theorem dX4_isWrapped_206 : decode cX4_isWrapped 206 = .ok (.iload 9, 2) := by decide +kernel
theorem dX4_isWrapped_208 : decode cX4_isWrapped 208 = .ok (.bipush (-9), 2) := by decide +kernel
theorem dX4_isWrapped_210 : decode cX4_isWrapped 210 = .ok (.if_icmp .eq 185, 3) := by decide +kernel
theorem dX4_isWrapped_213 : decode cX4_isWrapped 213 = .ok (.aload_n 0, 1) := by decide +kernel
theorem dX4_isWrapped_214 : decode cX4_isWrapped 214 = .ok (.aload_n 0, 1) := by decide +kernel
theorem dX4_isWrapped_215 : decode cX4_isWrapped 215 = .ok (.getfield 96, 3) := by decide +kernel
theorem dX4_isWrapped_218 : decode cX4_isWrapped 218 = .ok (.iload 7, 2) := by decide +kernel
theorem dX4_isWrapped_220 : decode cX4_isWrapped 220 = .ok (.iaload, 1) := by decide +kernel
theorem dX4_isWrapped_221 : decode cX4_isWrapped 221 = .ok (.iload 8, 2) := by decide +kernel
theorem dX4_isWrapped_223 : decode cX4_isWrapped 223 = .ok (.aload_n 0, 1) := by decide +kernel
theorem dX4_isWrapped_224 : decode cX4_isWrapped 224 = .ok (.getfield 99, 3) := by decide +kernel
theorem dX4_isWrapped_227 : decode cX4_isWrapped 227 = .ok (.iload 7, 2) := by decide +kernel
theorem dX4_isWrapped_229 : decode cX4_isWrapped 229 = .ok (.iaload, 1) := by decide +kernel
theorem dX4_isWrapped_230 : decode cX4_isWrapped 230 = .ok (.aload_n 0, 1) := by decide +kernel
theorem dX4_isWrapped_231 : decode cX4_isWrapped 231 = .ok (.getfield 102, 3) := by decide +kernel
theorem dX4_isWrapped_234 : decode cX4_isWrapped 234 = .ok (.iload 7, 2) := by decide +kernel
theorem dX4_isWrapped_236 : decode cX4_isWrapped 236 = .ok (.iaload, 1) := by decide +kernel
theorem dX4_isWrapped_237 : decode cX4_isWrapped 237 = .ok (.invokestatic 176, 3) := by decide +kernel
theorem dX4_isWrapped_240 : decode cX4_isWrapped 240 = .ok (.invokevirtual 189, 3) := by decide +kernel
theorem dX4_isWrapped_243 : decode cX4_isWrapped 243 = .ok (.istore 10, 2) := by decide +kernel
theorem dX4_isWrapped_245 : decode cX4_isWrapped 245 = .ok (.aload_n 0, 1) := by decide +kernel
theorem dX4_isWrapped_246 : decode cX4_isWrapped 246 = .ok (.aload_n 0, 1) := by decide +kernel
theorem dX4_isWrapped_247 : decode cX4_isWrapped 247 = .ok (.getfield 96, 3) := by decide +kernel
theorem dX4_isWrapped_250 : decode cX4_isWrapped 250 = .ok (.iload 7, 2) := by decide +kernel
theorem dX4_isWrapped_252 : decode cX4_isWrapped 252 = .ok (.iaload, 1) := by decide +kernel
theorem dX4_isWrapped_253 : decode cX4_isWrapped 253 = .ok (.iload 8, 2) := by decide +kernel
theorem dX4_isWrapped_255 : decode cX4_isWrapped 255 = .ok (.aload_n 0, 1) := by decide +kernel
theorem dX4_isWrapped_256 : decode cX4_isWrapped 256 = .ok (.getfield 99, 3) := by decide +kernel
theorem dX4_isWrapped_259 : decode cX4_isWrapped 259 = .ok (.iload 7, 2) := by decide +kernel
theorem dX4_isWrapped_261 : decode cX4_isWrapped 261 = .ok (.iaload, 1) := by decide +kernel
theorem dX4_isWrapped_262 : decode cX4_isWrapped 262 = .ok (.aload_n 0, 1) := by decide +kernel
theorem dX4_isWrapped_263 : decode cX4_isWrapped 263 = .ok (.getfield 102, 3) := by decide +kernel
theorem dX4_isWrapped_266 : decode cX4_isWrapped 266 = .ok (.iload 7, 2) := by decide +kernel
theorem dX4_isWrapped_268 : decode cX4_isWrapped 268 = .ok (.iaload, 1) := by decide +kernel
theorem dX4_isWrapped_269 : decode cX4_isWrapped 269 = .ok (.invokevirtual 214, 3) := by decide +kernel
theorem dX4_isWrapped_272 : decode cX4_isWrapped 272 = .ok (.istore 11, 2) := by decide +kernel
theorem dX4_isWrapped_274 : decode cX4_isWrapped 274 = .ok (.aload_n 0, 1) := by decide +kernel
theorem dX4_isWrapped_275 : decode cX4_isWrapped 275 = .ok (.aload_n 0, 1) := by decide +kernel
theorem dX4_isWrapped_276 : decode cX4_isWrapped 276 = .ok (.getfield 96, 3) := by decide +kernel
theorem dX4_isWrapped_279 : decode cX4_isWrapped 279 = .ok (.iload 7, 2) := by decide +kernel
theorem dX4_isWrapped_281 : decode cX4_isWrapped 281 = .ok (.iaload, 1) := by decide +kernel
theorem dX4_isWrapped_282 : decode cX4_isWrapped 282 = .ok (.iload 8, 2) := by decide +kernel
theorem dX4_isWrapped_284 : decode cX4_isWrapped 284 = .ok (.aload_n 0, 1) := by decide +kernel
theorem dX4_isWrapped_285 : decode cX4_isWrapped 285 = .ok (.getfield 99, 3) := by decide +kernel
theorem dX4_isWrapped_288 : decode cX4_isWrapped 288 = .ok (.iload 7, 2) := by decide +kernel
theorem dX4_isWrapped_290 : decode cX4_isWrapped 290 = .ok (.iaload, 1) := by decide +kernel
theorem dX4_isWrapped_291 : decode cX4_isWrapped 291 = .ok (.aload_n 0, 1) := by decide +kernel
theorem dX4_isWrapped_292 : decode cX4_isWrapped 292 = .ok (.getfield 102, 3) := by decide +kernel
theorem dX4_isWrapped_295 : decode cX4_isWrapped 295 = .ok (.iload 7, 2) := by decide +kernel
theorem dX4_isWrapped_297 : decode cX4_isWrapped 297 = .ok (.iaload, 1) := by decide +kernel
theorem dX4_isWrapped_298 : decode cX4_isWrapped 298 = .ok (.invokevirtual 218, 3) := by decide +kernel
theorem dX4_isWrapped_301 : decode cX4_isWrapped 301 = .ok (.istore 12, 2) := by decide +kernel
theorem dX4_isWrapped_303 : decode cX4_isWrapped 303 = .ok (.aload_n 0, 1) := by decide +kernel
theorem dX4_isWrapped_304 : decode cX4_isWrapped 304 = .ok (.getfield 96, 3) := by decide +kernel
theorem dX4_isWrapped_307 : decode cX4_isWrapped 307 = .ok (.iload 9, 2) := by decide +kernel
theorem dX4_isWrapped_309 : decode cX4_isWrapped 309 = .ok (.iaload, 1) := by decide +kernel
theorem dX4_isWrapped_310 : decode cX4_isWrapped 310 = .ok (.bipush (-9), 2) := by decide +kernel
theorem dX4_isWrapped_312 : decode cX4_isWrapped 312 = .ok (.if_icmp .ne 45, 3) := by decide +kernel
theorem dX4_isWrapped_315 : decode cX4_isWrapped 315 = .ok (.aload_n 0, 1) := by decide +kernel
theorem dX4_isWrapped_316 : decode cX4_isWrapped 316 = .ok (.getfield 96, 3) := by decide +kernel
theorem dX4_isWrapped_319 : decode cX4_isWrapped 319 = .ok (.iload 9, 2) := by decide +kernel
theorem dX4_isWrapped_321 : decode cX4_isWrapped 321 = .ok (.iload 10, 2) := by decide +kernel
theorem dX4_isWrapped_323 : decode cX4_isWrapped 323 = .ok (.iastore, 1) := by decide +kernel
theorem dX4_isWrapped_324 : decode cX4_isWrapped 324 = .ok (.aload_n 0, 1) := by decide +kernel
theorem dX4_isWrapped_325 : decode cX4_isWrapped 325 = .ok (.getfield 99, 3) := by decide +kernel
theorem dX4_isWrapped_328 : decode cX4_isWrapped 328 = .ok (.iload 9, 2) := by decide +kernel
theorem dX4_isWrapped_330 : decode cX4_isWrapped 330 = .ok (.iload 11, 2) := by decide +kernel
theorem dX4_isWrapped_332 : decode cX4_isWrapped 332 = .ok (.iastore, 1) := by decide +kernel
theorem dX4_isWrapped_333 : decode cX4_isWrapped 333 = .ok (.aload_n 0, 1) := by decide +kernel
theorem dX4_isWrapped_334 : decode cX4_isWrapped 334 = .ok (.getfield 102, 3) := by decide +kernel
theorem dX4_isWrapped_337 : decode cX4_isWrapped 337 = .ok (.iload 9, 2) := by decide +kernel
theorem dX4_isWrapped_339 : decode cX4_isWrapped 339 = .ok (.iload 12, 2) := by decide +kernel
theorem dX4_isWrapped_341 : decode cX4_isWrapped 341 = .ok (.iastore, 1) := by decide +kernel
theorem dX4_isWrapped_342 : decode cX4_isWrapped 342 = .ok (.aload_n 0, 1) := by decide +kernel
theorem dX4_isWrapped_343 : decode cX4_isWrapped 343 = .ok (.getfield 105, 3) := by decide +kernel
theorem dX4_isWrapped_346 : decode cX4_isWrapped 346 = .ok (.iload 5, 2) := by decide +kernel
theorem dX4_isWrapped_348 : decode cX4_isWrapped 348 = .ok (.iload 9, 2) := by decide +kernel
theorem dX4_isWrapped_350 : decode cX4_isWrapped 350 = .ok (.iastore, 1) := by decide +kernel
theorem dX4_isWrapped_351 : decode cX4_isWrapped 351 = .ok (.iinc 5 1, 3) := by decide +kernel
theorem dX4_isWrapped_354 : decode cX4_isWrapped 354 = .ok (.goto 41, 3) := by decide +kernel
theorem dX4_isWrapped_357 : decode cX4_isWrapped 357 = .ok (.aload_n 0, 1) := by decide +kernel
theorem dX4_isWrapped_358 : decode cX4_isWrapped 358 = .ok (.getfield 96, 3) := by decide +kernel
theorem dX4_isWrapped_361 : decode cX4_isWrapped 361 = .ok (.iload 9, 2) := by decide +kernel
theorem dX4_isWrapped_363 : decode cX4_isWrapped 363 = .ok (.iaload, 1) := by decide +kernel
theorem dX4_isWrapped_364 : decode cX4_isWrapped 364 = .ok (.iload 10, 2) := by decide +kernel
theorem dX4_isWrapped_366 : decode cX4_isWrapped 366 = .ok (.if_icmp .ne 27, 3) := by decide +kernel
theorem dX4_isWrapped_369 : decode cX4_isWrapped 369 = .ok (.aload_n 0, 1) := by decide +kernel
theorem dX4_isWrapped_370 : decode cX4_isWrapped 370 = .ok (.getfield 99, 3) := by decide +kernel
theorem dX4_isWrapped_373 : decode cX4_isWrapped 373 = .ok (.iload 9, 2) := by decide +kernel
theorem dX4_isWrapped_375 : decode cX4_isWrapped 375 = .ok (.iaload, 1) := by decide +kernel
theorem dX4_isWrapped_376 : decode cX4_isWrapped 376 = .ok (.iload 11, 2) := by decide +kernel
theorem dX4_isWrapped_378 : decode cX4_isWrapped 378 = .ok (.if_icmp .ne 15, 3) := by decide +kernel
theorem dX4_isWrapped_381 : decode cX4_isWrapped 381 = .ok (.aload_n 0, 1) := by decide +kernel
theorem dX4_isWrapped_382 : decode cX4_isWrapped 382 = .ok (.getfield 102, 3) := by decide +kernel
theorem dX4_isWrapped_385 : decode cX4_isWrapped 385 = .ok (.iload 9, 2) := by decide +kernel
theorem dX4_isWrapped_387 : decode cX4_isWrapped 387 = .ok (.iaload, 1) := by decide +kernel
theorem dX4_isWrapped_388 : decode cX4_isWrapped 388 = .ok (.iload 12, 2) := by decide +kernel
theorem dX4_isWrapped_390 : decode cX4_isWrapped 390 = .ok (.if_icmp .eq 5, 3) := by decide +kernel
theorem dX4_isWrapped_393 : decode cX4_isWrapped 393 = .ok (.iconst 0, 1) := by decide +kernel
theorem dX4_isWrapped_394 : decode cX4_isWrapped 394 = .ok (.ireturn, 1) := by decide +kernel
theorem dX4_isWrapped_395 : decode cX4_isWrapped 395 = .ok (.iinc 8 1, 3) := by decide +kernel
theorem dX4_isWrapped_398 : decode cX4_isWrapped 398 = .ok (.goto (-232), 3) := by decide +kernel
theorem dX4_isWrapped_401 : decode cX4_isWrapped 401 = .ok (.iinc 6 1, 3) := by decide +kernel
theorem dX4_isWrapped_404 : decode cX4_isWrapped 404 = .ok (.goto (-257), 3) := by decide +kernel
theorem dX4_isWrapped_407 : decode cX4_isWrapped 407 = .ok (.iconst 0, 1) := by decide +kernel
theorem dX4_isWrapped_408 : decode cX4_isWrapped 408 = .ok (.istore 6, 2) := by decide +kernel
theorem dX4_isWrapped_410 : decode cX4_isWrapped 410 = .ok (.iload 6, 2) := by decide +kernel
theorem dX4_isWrapped_412 : decode cX4_isWrapped 412 = .ok (.iload 4, 2) := by decide +kernel
theorem dX4_isWrapped_414 : decode cX4_isWrapped 414 = .ok (.if_icmp .ge 44, 3) := by decide +kernel
theorem dX4_isWrapped_417 : decode cX4_isWrapped 417 = .ok (.iconst 0, 1) := by decide +kernel
theorem dX4_isWrapped_418 : decode cX4_isWrapped 418 = .ok (.istore 7, 2) := by decide +kernel
theorem dX4_isWrapped_420 : decode cX4_isWrapped 420 = .ok (.iload 7, 2) := by decide +kernel
theorem dX4_isWrapped_422 : decode cX4_isWrapped 422 = .ok (.iload 6, 2) := by decide +kernel
theorem dX4_isWrapped_424 : decode cX4_isWrapped 424 = .ok (.if_icmp .ge 28, 3) := by decide +kernel
theorem dX4_isWrapped_427 : decode cX4_isWrapped 427 = .ok (.aload_n 0, 1) := by decide +kernel
theorem dX4_isWrapped_428 : decode cX4_isWrapped 428 = .ok (.getfield 96, 3) := by decide +kernel
theorem dX4_isWrapped_431 : decode cX4_isWrapped 431 = .ok (.iload 6, 2) := by decide +kernel
theorem dX4_isWrapped_433 : decode cX4_isWrapped 433 = .ok (.iaload, 1) := by decide +kernel
theorem dX4_isWrapped_434 : decode cX4_isWrapped 434 = .ok (.aload_n 0, 1) := by decide +kernel
theorem dX4_isWrapped_435 : decode cX4_isWrapped 435 = .ok (.getfield 96, 3) := by decide +kernel
theorem dX4_isWrapped_438 : decode cX4_isWrapped 438 = .ok (.iload 7, 2) := by decide +kernel
theorem dX4_isWrapped_440 : decode cX4_isWrapped 440 = .ok (.iaload, 1) := by decide +kernel
theorem dX4_isWrapped_441 : decode cX4_isWrapped 441 = .ok (.if_icmp .ne 5, 3) := by decide +kernel
theorem dX4_isWrapped_444 : decode cX4_isWrapped 444 = .ok (.iconst 0, 1) := by decide +kernel
theorem dX4_isWrapped_445 : decode cX4_isWrapped 445 = .ok (.ireturn, 1) := by decide +kernel
theorem dX4_isWrapped_446 : decode cX4_isWrapped 446 = .ok (.iinc 7 1, 3) := by decide +kernel
theorem dX4_isWrapped_449 : decode cX4_isWrapped 449 = .ok (.goto (-29), 3) := by decide +kernel
theorem dX4_isWrapped_452 : decode cX4_isWrapped 452 = .ok (.iinc 6 1, 3) := by decide +kernel
theorem dX4_isWrapped_455 : decode cX4_isWrapped 455 = .ok (.goto (-45), 3) := by decide +kernel
theorem dX4_isWrapped_458 : decode cX4_isWrapped 458 = .ok (.iconst 1, 1) := by decide +kernel
theorem dX4_isWrapped_459 : decode cX4_isWrapped 459 = .ok (.ireturn, 1) := by decide +kernel
theorem dX4_placeAt_0 : decode cX4_placeAt 0 = .ok (.iconst 0, 1) := by decide +kernel
theorem dX4_placeAt_1 : decode cX4_placeAt 1 = .ok (.istore 4, 2) := by decide +kernel
theorem dX4_placeAt_3 : decode cX4_placeAt 3 = .ok (.iload 4, 2) := by decide +kernel
theorem dX4_placeAt_5 : decode cX4_placeAt 5 = .ok (.iload_n 1, 1) := by decide +kernel
theorem dX4_placeAt_6 : decode cX4_placeAt 6 = .ok (.if_icmp .ge 34, 3) := by decide +kernel
theorem dX4_placeAt_9 : decode cX4_placeAt 9 = .ok (.aload_n 0, 1) := by decide +kernel
theorem dX4_placeAt_10 : decode cX4_placeAt 10 = .ok (.getfield 84, 3) := by decide +kernel
theorem dX4_placeAt_13 : decode cX4_placeAt 13 = .ok (.iload 4, 2) := by decide +kernel
theorem dX4_placeAt_15 : decode cX4_placeAt 15 = .ok (.iaload, 1) := by decide +kernel
theorem dX4_placeAt_16 : decode cX4_placeAt 16 = .ok (.iload_n 2, 1) := by decide +kernel
theorem dX4_placeAt_17 : decode cX4_placeAt 17 = .ok (.if_icmp .ne 17, 3) := by decide +kernel
theorem dX4_placeAt_20 : decode cX4_placeAt 20 = .ok (.aload_n 0, 1) := by decide +kernel
theorem dX4_placeAt_21 : decode cX4_placeAt 21 = .ok (.getfield 87, 3) := by decide +kernel
theorem dX4_placeAt_24 : decode cX4_placeAt 24 = .ok (.iload 4, 2) := by decide +kernel
theorem dX4_placeAt_26 : decode cX4_placeAt 26 = .ok (.iaload, 1) := by decide +kernel
theorem dX4_placeAt_27 : decode cX4_placeAt 27 = .ok (.iload_n 3, 1) := by decide +kernel
theorem dX4_placeAt_28 : decode cX4_placeAt 28 = .ok (.if_icmp .ne 6, 3) := by decide +kernel
theorem dX4_placeAt_31 : decode cX4_placeAt 31 = .ok (.iload 4, 2) := by decide +kernel
theorem dX4_placeAt_33 : decode cX4_placeAt 33 = .ok (.ireturn, 1) := by decide +kernel
theorem dX4_placeAt_34 : decode cX4_placeAt 34 = .ok (.iinc 4 1, 3) := by decide +kernel
theorem dX4_placeAt_37 : decode cX4_placeAt 37 = .ok (.goto (-34), 3) := by decide +kernel
theorem dX4_placeAt_40 : decode cX4_placeAt 40 = .ok (.bipush (-9), 2) := by decide +kernel
theorem dX4_placeAt_42 : decode cX4_placeAt 42 = .ok (.ireturn, 1) := by decide +kernel
end
section
set_option maxRecDepth 100000
theorem dX1_values_0 : decode cX1_values 0 = .ok (.getstatic 22, 3) := by decide +kernel
theorem dX1_values_3 : decode cX1_values 3 = .ok (.invokevirtual 26, 3) := by decide +kernel
theorem dX1_values_6 : decode cX1_values 6 = .ok (.checkcast 27, 3) := by decide +kernel
theorem dX1_values_9 : decode cX1_values 9 = .ok (.areturn, 1) := by decide +kernel
theorem dX2_init_0 : decode cX2_init 0 = .ok (.aload_n 0, 1) := by decide +kernel
theorem dX2_init_1 : decode cX2_init 1 = .ok (.invokespecial 3, 3) := by decide +kernel
theorem dX2_init_4 : decode cX2_init 4 = .ok (.aload_n 0, 1) := by decide +kernel
theorem dX2_init_5 : decode cX2_init 5 = .ok (.bipush 22, 2) := by decide +kernel
theorem dX2_init_7 : decode cX2_init 7 = .ok (.newarray .int, 2) := by decide +kernel
theorem dX2_init_9 : decode cX2_init 9 = .ok (.putfield 9, 3) := by decide +kernel
theorem dX2_init_12 : decode cX2_init 12 = .ok (.aload_n 0, 1) := by decide +kernel
theorem dX2_init_13 : decode cX2_init 13 = .ok (.bipush 22, 2) := by decide +kernel
theorem dX2_init_15 : decode cX2_init 15 = .ok (.newarray .boolean, 2) := by decide +kernel
theorem dX2_init_17 : decode cX2_init 17 = .ok (.putfield 15, 3) := by decide +kernel
theorem dX2_init_20 : decode cX2_init 20 = .ok (.aload_n 0, 1) := by decide +kernel
theorem dX2_init_21 : decode cX2_init 21 = .ok (.bipush 22, 2) := by decide +kernel
theorem dX2_init_23 : decode cX2_init 23 = .ok (.newarray .int, 2) := by decide +kernel
theorem dX2_init_25 : decode cX2_init 25 = .ok (.putfield 19, 3) := by decide +kernel
theorem dX2_init_28 : decode cX2_init 28 = .ok (.aload_n 0, 1) := by decide +kernel
theorem dX2_init_29 : decode cX2_init 29 = .ok (.bipush 22, 2) := by decide +kernel
theorem dX2_init_31 : decode cX2_init 31 = .ok (.newarray .int, 2) := by decide +kernel
theorem dX2_init_33 : decode cX2_init 33 = .ok (.putfield 22, 3) := by decide +kernel
theorem dX2_init_36 : decode cX2_init 36 = .ok (.aload_n 0, 1) := by decide +kernel
theorem dX2_init_37 : decode cX2_init 37 = .ok (.bipush 22, 2) := by decide +kernel
theorem dX2_init_39 : decode cX2_init 39 = .ok (.newarray .int, 2) := by decide +kernel
theorem dX2_init_41 : decode cX2_init 41 = .ok (.putfield 25, 3) := by decide +kernel
theorem dX2_init_44 : decode cX2_init 44 = .ok (.aload_n 0, 1) := by decide +kernel
theorem dX2_init_45 : decode cX2_init 45 = .ok (.bipush 22, 2) := by decide +kernel
theorem dX2_init_47 : decode cX2_init 47 = .ok (.newarray .int, 2) := by decide +kernel
theorem dX2_init_49 : decode cX2_init 49 = .ok (.putfield 28, 3) := by decide +kernel
theorem dX2_init_52 : decode cX2_init 52 = .ok (.aload_n 0, 1) := by decide +kernel
theorem dX2_init_53 : decode cX2_init 53 = .ok (.sipush 4096, 3) := by decide +kernel
theorem dX2_init_56 : decode cX2_init 56 = .ok (.newarray .int, 2) := by decide +kernel
theorem dX2_init_58 : decode cX2_init 58 = .ok (.putfield 31, 3) := by decide +kernel
theorem dX2_init_61 : decode cX2_init 61 = .ok (.aload_n 0, 1) := by decide +kernel
theorem dX2_init_62 : decode cX2_init 62 = .ok (.aload_n 1, 1) := by decide +kernel
theorem dX2_init_63 : decode cX2_init 63 = .ok (.putfield 34, 3) := by decide +kernel
theorem dX2_init_66 : decode cX2_init 66 = .ok (.aload_n 0, 1) := by decide +kernel
theorem dX2_init_67 : decode cX2_init 67 = .ok (.aload_n 2, 1) := by decide +kernel
theorem dX2_init_68 : decode cX2_init 68 = .ok (.putfield 38, 3) := by decide +kernel
theorem dX2_init_71 : decode cX2_init 71 = .ok (.aload_n 0, 1) := by decide +kernel
theorem dX2_init_72 : decode cX2_init 72 = .ok (.aload_n 3, 1) := by decide +kernel
theorem dX2_init_73 : decode cX2_init 73 = .ok (.putfield 41, 3) := by decide +kernel
theorem dX2_init_76 : decode cX2_init 76 = .ok (.return_, 1) := by decide +kernel
theorem dX2_clear_0 : decode cX2_clear 0 = .ok (.aload_n 0, 1) := by decide +kernel
theorem dX2_clear_1 : decode cX2_clear 1 = .ok (.getfield 44, 3) := by decide +kernel
theorem dX2_clear_4 : decode cX2_clear 4 = .ok (.ifCond .le 10, 3) := by decide +kernel
theorem dX2_clear_7 : decode cX2_clear 7 = .ok (.aload_n 0, 1) := by decide +kernel
theorem dX2_clear_8 : decode cX2_clear 8 = .ok (.invokevirtual 48, 3) := by decide +kernel
theorem dX2_clear_11 : decode cX2_clear 11 = .ok (.goto (-11), 3) := by decide +kernel
theorem dX2_clear_14 : decode cX2_clear 14 = .ok (.return_, 1) := by decide +kernel
theorem dX2_drop_0 : decode cX2_drop 0 = .ok (.aload_n 0, 1) := by decide +kernel
theorem dX2_drop_1 : decode cX2_drop 1 = .ok (.dup, 1) := by decide +kernel
theorem dX2_drop_2 : decode cX2_drop 2 = .ok (.getfield 44, 3) := by decide +kernel
theorem dX2_drop_5 : decode cX2_drop 5 = .ok (.iconst 1, 1) := by decide +kernel
theorem dX2_drop_6 : decode cX2_drop 6 = .ok (.isub, 1) := by decide +kernel
theorem dX2_drop_7 : decode cX2_drop 7 = .ok (.putfield 44, 3) := by decide +kernel
theorem dX2_drop_10 : decode cX2_drop 10 = .ok (.aload_n 0, 1) := by decide +kernel
theorem dX2_drop_11 : decode cX2_drop 11 = .ok (.getfield 9, 3) := by decide +kernel
theorem dX2_drop_14 : decode cX2_drop 14 = .ok (.aload_n 0, 1) := by decide +kernel
theorem dX2_drop_15 : decode cX2_drop 15 = .ok (.getfield 44, 3) := by decide +kernel
theorem dX2_drop_18 : decode cX2_drop 18 = .ok (.iaload, 1) := by decide +kernel
theorem dX2_drop_19 : decode cX2_drop 19 = .ok (.istore_n 1, 1) := by decide +kernel
theorem dX2_drop_20 : decode cX2_drop 20 = .ok (.aload_n 0, 1) := by decide +kernel
theorem dX2_drop_21 : decode cX2_drop 21 = .ok (.getfield 15, 3) := by decide +kernel
theorem dX2_drop_24 : decode cX2_drop 24 = .ok (.iload_n 1, 1) := by decide +kernel
theorem dX2_drop_25 : decode cX2_drop 25 = .ok (.iconst 0, 1) := by decide +kernel
theorem dX2_drop_26 : decode cX2_drop 26 = .ok (.bastore, 1) := by decide +kernel
theorem dX2_drop_27 : decode cX2_drop 27 = .ok (.aload_n 0, 1) := by decide +kernel
theorem dX2_drop_28 : decode cX2_drop 28 = .ok (.getfield 31, 3) := by decide +kernel
theorem dX2_drop_31 : decode cX2_drop 31 = .ok (.aload_n 0, 1) := by decide +kernel
theorem dX2_drop_32 : decode cX2_drop 32 = .ok (.aload_n 0, 1) := by decide +kernel
theorem dX2_drop_33 : decode cX2_drop 33 = .ok (.getfield 19, 3) := by decide +kernel
theorem dX2_drop_36 : decode cX2_drop 36 = .ok (.iload_n 1, 1) := by decide +kernel
theorem dX2_drop_37 : decode cX2_drop 37 = .ok (.iaload, 1) := by decide +kernel
theorem dX2_drop_38 : decode cX2_drop 38 = .ok (.aload_n 0, 1) := by decide +kernel
theorem dX2_drop_39 : decode cX2_drop 39 = .ok (.getfield 22, 3) := by decide +kernel
theorem dX2_drop_42 : decode cX2_drop 42 = .ok (.iload_n 1, 1) := by decide +kernel
theorem dX2_drop_43 : decode cX2_drop 43 = .ok (.iaload, 1) := by decide +kernel
theorem dX2_drop_44 : decode cX2_drop 44 = .ok (.invokevirtual 51, 3) := by decide +kernel
theorem dX2_drop_47 : decode cX2_drop 47 = .ok (.iconst 0, 1) := by decide +kernel
theorem dX2_drop_48 : decode cX2_drop 48 = .ok (.iastore, 1) := by decide +kernel
theorem dX2_drop_49 : decode cX2_drop 49 = .ok (.return_, 1) := by decide +kernel
theorem dX2_placeOf_0 : decode cX2_placeOf 0 = .ok (.bipush 64, 2) := by decide +kernel
theorem dX2_placeOf_2 : decode cX2_placeOf 2 = .ok (.iload_n 2, 1) := by decide +kernel
theorem dX2_placeOf_3 : decode cX2_placeOf 3 = .ok (.bipush 32, 2) := by decide +kernel
theorem dX2_placeOf_5 : decode cX2_placeOf 5 = .ok (.iadd, 1) := by decide +kernel
theorem dX2_placeOf_6 : decode cX2_placeOf 6 = .ok (.imul, 1) := by decide +kernel
theorem dX2_placeOf_7 : decode cX2_placeOf 7 = .ok (.iload_n 1, 1) := by decide +kernel
theorem dX2_placeOf_8 : decode cX2_placeOf 8 = .ok (.iadd, 1) := by decide +kernel
theorem dX2_placeOf_9 : decode cX2_placeOf 9 = .ok (.bipush 32, 2) := by decide +kernel
theorem dX2_placeOf_11 : decode cX2_placeOf 11 = .ok (.iadd, 1) := by decide +kernel
theorem dX2_placeOf_12 : decode cX2_placeOf 12 = .ok (.ireturn, 1) := by decide +kernel
theorem dX2_first_0 : decode cX2_first 0 = .ok (.aload_n 0, 1) := by decide +kernel
theorem dX2_first_1 : decode cX2_first 1 = .ok (.iload_n 1, 1) := by decide +kernel
theorem dX2_first_2 : decode cX2_first 2 = .ok (.iconst 0, 1) := by decide +kernel
theorem dX2_first_3 : decode cX2_first 3 = .ok (.iconst 0, 1) := by decide +kernel
theorem dX2_first_4 : decode cX2_first 4 = .ok (.aload_n 0, 1) := by decide +kernel
theorem dX2_first_5 : decode cX2_first 5 = .ok (.getfield 38, 3) := by decide +kernel
theorem dX2_first_8 : decode cX2_first 8 = .ok (.aload_n 0, 1) := by decide +kernel
theorem dX2_first_9 : decode cX2_first 9 = .ok (.getfield 34, 3) := by decide +kernel
theorem dX2_first_12 : decode cX2_first 12 = .ok (.iload_n 1, 1) := by decide +kernel
theorem dX2_first_13 : decode cX2_first 13 = .ok (.aaload, 1) := by decide +kernel
theorem dX2_first_14 : decode cX2_first 14 = .ok (.getfield 55, 3) := by decide +kernel
theorem dX2_first_17 : decode cX2_first 17 = .ok (.iaload, 1) := by decide +kernel
theorem dX2_first_18 : decode cX2_first 18 = .ok (.aload_n 0, 1) := by decide +kernel
theorem dX2_first_19 : decode cX2_first 19 = .ok (.getfield 41, 3) := by decide +kernel
theorem dX2_first_22 : decode cX2_first 22 = .ok (.aload_n 0, 1) := by decide +kernel
theorem dX2_first_23 : decode cX2_first 23 = .ok (.getfield 34, 3) := by decide +kernel
theorem dX2_first_26 : decode cX2_first 26 = .ok (.iload_n 1, 1) := by decide +kernel
theorem dX2_first_27 : decode cX2_first 27 = .ok (.aaload, 1) := by decide +kernel
theorem dX2_first_28 : decode cX2_first 28 = .ok (.getfield 55, 3) := by decide +kernel
theorem dX2_first_31 : decode cX2_first 31 = .ok (.iaload, 1) := by decide +kernel
theorem dX2_first_32 : decode cX2_first 32 = .ok (.invokevirtual 60, 3) := by decide +kernel
theorem dX2_first_35 : decode cX2_first 35 = .ok (.return_, 1) := by decide +kernel
theorem dX2_put_0 : decode cX2_put 0 = .ok (.aload_n 0, 1) := by decide +kernel
theorem dX2_put_1 : decode cX2_put 1 = .ok (.getfield 9, 3) := by decide +kernel
theorem dX2_put_4 : decode cX2_put 4 = .ok (.aload_n 0, 1) := by decide +kernel
theorem dX2_put_5 : decode cX2_put 5 = .ok (.getfield 44, 3) := by decide +kernel
theorem dX2_put_8 : decode cX2_put 8 = .ok (.iload_n 1, 1) := by decide +kernel
theorem dX2_put_9 : decode cX2_put 9 = .ok (.iastore, 1) := by decide +kernel
theorem dX2_put_10 : decode cX2_put 10 = .ok (.aload_n 0, 1) := by decide +kernel
theorem dX2_put_11 : decode cX2_put 11 = .ok (.dup, 1) := by decide +kernel
theorem dX2_put_12 : decode cX2_put 12 = .ok (.getfield 44, 3) := by decide +kernel
theorem dX2_put_15 : decode cX2_put 15 = .ok (.iconst 1, 1) := by decide +kernel
theorem dX2_put_16 : decode cX2_put 16 = .ok (.iadd, 1) := by decide +kernel
theorem dX2_put_17 : decode cX2_put 17 = .ok (.putfield 44, 3) := by decide +kernel
theorem dX2_put_20 : decode cX2_put 20 = .ok (.aload_n 0, 1) := by decide +kernel
theorem dX2_put_21 : decode cX2_put 21 = .ok (.getfield 15, 3) := by decide +kernel
theorem dX2_put_24 : decode cX2_put 24 = .ok (.iload_n 1, 1) := by decide +kernel
theorem dX2_put_25 : decode cX2_put 25 = .ok (.iconst 1, 1) := by decide +kernel
theorem dX2_put_26 : decode cX2_put 26 = .ok (.bastore, 1) := by decide +kernel
theorem dX2_put_27 : decode cX2_put 27 = .ok (.aload_n 0, 1) := by decide +kernel
theorem dX2_put_28 : decode cX2_put 28 = .ok (.getfield 19, 3) := by decide +kernel
theorem dX2_put_31 : decode cX2_put 31 = .ok (.iload_n 1, 1) := by decide +kernel
theorem dX2_put_32 : decode cX2_put 32 = .ok (.iload_n 2, 1) := by decide +kernel
theorem dX2_put_33 : decode cX2_put 33 = .ok (.iastore, 1) := by decide +kernel
theorem dX2_put_34 : decode cX2_put 34 = .ok (.aload_n 0, 1) := by decide +kernel
theorem dX2_put_35 : decode cX2_put 35 = .ok (.getfield 22, 3) := by decide +kernel
theorem dX2_put_38 : decode cX2_put 38 = .ok (.iload_n 1, 1) := by decide +kernel
theorem dX2_put_39 : decode cX2_put 39 = .ok (.iload_n 3, 1) := by decide +kernel
theorem dX2_put_40 : decode cX2_put 40 = .ok (.iastore, 1) := by decide +kernel
theorem dX2_put_41 : decode cX2_put 41 = .ok (.aload_n 0, 1) := by decide +kernel
theorem dX2_put_42 : decode cX2_put 42 = .ok (.getfield 25, 3) := by decide +kernel
theorem dX2_put_45 : decode cX2_put 45 = .ok (.iload_n 1, 1) := by decide +kernel
theorem dX2_put_46 : decode cX2_put 46 = .ok (.iload 4, 2) := by decide +kernel
theorem dX2_put_48 : decode cX2_put 48 = .ok (.iastore, 1) := by decide +kernel
theorem dX2_put_49 : decode cX2_put 49 = .ok (.aload_n 0, 1) := by decide +kernel
theorem dX2_put_50 : decode cX2_put 50 = .ok (.getfield 28, 3) := by decide +kernel
theorem dX2_put_53 : decode cX2_put 53 = .ok (.iload_n 1, 1) := by decide +kernel
theorem dX2_put_54 : decode cX2_put 54 = .ok (.iload 5, 2) := by decide +kernel
theorem dX2_put_56 : decode cX2_put 56 = .ok (.iastore, 1) := by decide +kernel
theorem dX2_put_57 : decode cX2_put 57 = .ok (.aload_n 0, 1) := by decide +kernel
theorem dX2_put_58 : decode cX2_put 58 = .ok (.getfield 31, 3) := by decide +kernel
theorem dX2_put_61 : decode cX2_put 61 = .ok (.aload_n 0, 1) := by decide +kernel
theorem dX2_put_62 : decode cX2_put 62 = .ok (.iload_n 2, 1) := by decide +kernel
theorem dX2_put_63 : decode cX2_put 63 = .ok (.iload_n 3, 1) := by decide +kernel
theorem dX2_put_64 : decode cX2_put 64 = .ok (.invokevirtual 51, 3) := by decide +kernel
theorem dX2_put_67 : decode cX2_put 67 = .ok (.iload_n 1, 1) := by decide +kernel
theorem dX2_put_68 : decode cX2_put 68 = .ok (.iconst 1, 1) := by decide +kernel
theorem dX2_put_69 : decode cX2_put 69 = .ok (.iadd, 1) := by decide +kernel
theorem dX2_put_70 : decode cX2_put 70 = .ok (.iastore, 1) := by decide +kernel
theorem dX2_put_71 : decode cX2_put 71 = .ok (.return_, 1) := by decide +kernel
theorem dX2_across_0 : decode cX2_across 0 = .ok (.aload_n 0, 1) := by decide +kernel
theorem dX2_across_1 : decode cX2_across 1 = .ok (.getfield 34, 3) := by decide +kernel
theorem dX2_across_4 : decode cX2_across 4 = .ok (.iload_n 1, 1) := by decide +kernel
theorem dX2_across_5 : decode cX2_across 5 = .ok (.aaload, 1) := by decide +kernel
theorem dX2_across_6 : decode cX2_across 6 = .ok (.getfield 64, 3) := by decide +kernel
theorem dX2_across_9 : decode cX2_across 9 = .ok (.aload_n 0, 1) := by decide +kernel
theorem dX2_across_10 : decode cX2_across 10 = .ok (.iload_n 1, 1) := by decide +kernel
theorem dX2_across_11 : decode cX2_across 11 = .ok (.iload_n 2, 1) := by decide +kernel
theorem dX2_across_12 : decode cX2_across 12 = .ok (.invokevirtual 67, 3) := by decide +kernel
theorem dX2_across_15 : decode cX2_across 15 = .ok (.iaload, 1) := by decide +kernel
theorem dX2_across_16 : decode cX2_across 16 = .ok (.ireturn, 1) := by decide +kernel
theorem dX2_direction_0 : decode cX2_direction 0 = .ok (.iload_n 2, 1) := by decide +kernel
theorem dX2_direction_1 : decode cX2_direction 1 = .ok (.iconst 2, 1) := by decide +kernel
theorem dX2_direction_2 : decode cX2_direction 2 = .ok (.irem, 1) := by decide +kernel
theorem dX2_direction_3 : decode cX2_direction 3 = .ok (.ifCond .ne 12, 3) := by decide +kernel
theorem dX2_direction_6 : decode cX2_direction 6 = .ok (.aload_n 0, 1) := by decide +kernel
theorem dX2_direction_7 : decode cX2_direction 7 = .ok (.getfield 25, 3) := by decide +kernel
theorem dX2_direction_10 : decode cX2_direction 10 = .ok (.iload_n 1, 1) := by decide +kernel
theorem dX2_direction_11 : decode cX2_direction 11 = .ok (.iaload, 1) := by decide +kernel
theorem dX2_direction_12 : decode cX2_direction 12 = .ok (.goto 9, 3) := by decide +kernel
theorem dX2_direction_15 : decode cX2_direction 15 = .ok (.aload_n 0, 1) := by decide +kernel
theorem dX2_direction_16 : decode cX2_direction 16 = .ok (.getfield 28, 3) := by decide +kernel
theorem dX2_direction_19 : decode cX2_direction 19 = .ok (.iload_n 1, 1) := by decide +kernel
theorem dX2_direction_20 : decode cX2_direction 20 = .ok (.iaload, 1) := by decide +kernel
theorem dX2_direction_21 : decode cX2_direction 21 = .ok (.iload_n 2, 1) := by decide +kernel
theorem dX2_direction_22 : decode cX2_direction 22 = .ok (.iconst 1, 1) := by decide +kernel
theorem dX2_direction_23 : decode cX2_direction 23 = .ok (.ishr, 1) := by decide +kernel
theorem dX2_direction_24 : decode cX2_direction 24 = .ok (.ixor, 1) := by decide +kernel
theorem dX2_direction_25 : decode cX2_direction 25 = .ok (.ireturn, 1) := by decide +kernel
theorem dX2_nextX_0 : decode cX2_nextX 0 = .ok (.aload_n 0, 1) := by decide +kernel
theorem dX2_nextX_1 : decode cX2_nextX 1 = .ok (.getfield 19, 3) := by decide +kernel
theorem dX2_nextX_4 : decode cX2_nextX 4 = .ok (.iload_n 1, 1) := by decide +kernel
theorem dX2_nextX_5 : decode cX2_nextX 5 = .ok (.iaload, 1) := by decide +kernel
theorem dX2_nextX_6 : decode cX2_nextX 6 = .ok (.iload_n 2, 1) := by decide +kernel
theorem dX2_nextX_7 : decode cX2_nextX 7 = .ok (.ifCond .ne 7, 3) := by decide +kernel
theorem dX2_nextX_10 : decode cX2_nextX 10 = .ok (.iconst 1, 1) := by decide +kernel
theorem dX2_nextX_11 : decode cX2_nextX 11 = .ok (.goto 13, 3) := by decide +kernel
theorem dX2_nextX_14 : decode cX2_nextX 14 = .ok (.iload_n 2, 1) := by decide +kernel
theorem dX2_nextX_15 : decode cX2_nextX 15 = .ok (.iconst 2, 1) := by decide +kernel
theorem dX2_nextX_16 : decode cX2_nextX 16 = .ok (.if_icmp .ne 7, 3) := by decide +kernel
theorem dX2_nextX_19 : decode cX2_nextX 19 = .ok (.iconst (-1), 1) := by decide +kernel
theorem dX2_nextX_20 : decode cX2_nextX 20 = .ok (.goto 4, 3) := by decide +kernel
theorem dX2_nextX_23 : decode cX2_nextX 23 = .ok (.iconst 0, 1) := by decide +kernel
theorem dX2_nextX_24 : decode cX2_nextX 24 = .ok (.iadd, 1) := by decide +kernel
theorem dX2_nextX_25 : decode cX2_nextX 25 = .ok (.ireturn, 1) := by decide +kernel
theorem dX2_nextY_0 : decode cX2_nextY 0 = .ok (.aload_n 0, 1) := by decide +kernel
theorem dX2_nextY_1 : decode cX2_nextY 1 = .ok (.getfield 22, 3) := by decide +kernel
theorem dX2_nextY_4 : decode cX2_nextY 4 = .ok (.iload_n 1, 1) := by decide +kernel
theorem dX2_nextY_5 : decode cX2_nextY 5 = .ok (.iaload, 1) := by decide +kernel
theorem dX2_nextY_6 : decode cX2_nextY 6 = .ok (.iload_n 2, 1) := by decide +kernel
theorem dX2_nextY_7 : decode cX2_nextY 7 = .ok (.iconst 1, 1) := by decide +kernel
theorem dX2_nextY_8 : decode cX2_nextY 8 = .ok (.if_icmp .ne 7, 3) := by decide +kernel
theorem dX2_nextY_11 : decode cX2_nextY 11 = .ok (.iconst 1, 1) := by decide +kernel
theorem dX2_nextY_12 : decode cX2_nextY 12 = .ok (.goto 13, 3) := by decide +kernel
theorem dX2_nextY_15 : decode cX2_nextY 15 = .ok (.iload_n 2, 1) := by decide +kernel
theorem dX2_nextY_16 : decode cX2_nextY 16 = .ok (.iconst 3, 1) := by decide +kernel
theorem dX2_nextY_17 : decode cX2_nextY 17 = .ok (.if_icmp .ne 7, 3) := by decide +kernel
theorem dX2_nextY_20 : decode cX2_nextY 20 = .ok (.iconst (-1), 1) := by decide +kernel
theorem dX2_nextY_21 : decode cX2_nextY 21 = .ok (.goto 4, 3) := by decide +kernel
theorem dX2_nextY_24 : decode cX2_nextY 24 = .ok (.iconst 0, 1) := by decide +kernel
theorem dX2_nextY_25 : decode cX2_nextY 25 = .ok (.iadd, 1) := by decide +kernel
theorem dX2_nextY_26 : decode cX2_nextY 26 = .ok (.ireturn, 1) := by decide +kernel
theorem dX2_at_0 : decode cX2_at 0 = .ok (.aload_n 0, 1) := by decide +kernel
theorem dX2_at_1 : decode cX2_at 1 = .ok (.getfield 31, 3) := by decide +kernel
theorem dX2_at_4 : decode cX2_at 4 = .ok (.aload_n 0, 1) := by decide +kernel
theorem dX2_at_5 : decode cX2_at 5 = .ok (.iload_n 1, 1) := by decide +kernel
theorem dX2_at_6 : decode cX2_at 6 = .ok (.iload_n 2, 1) := by decide +kernel
theorem dX2_at_7 : decode cX2_at 7 = .ok (.invokevirtual 51, 3) := by decide +kernel
theorem dX2_at_10 : decode cX2_at 10 = .ok (.iaload, 1) := by decide +kernel
theorem dX2_at_11 : decode cX2_at 11 = .ok (.iconst 1, 1) := by decide +kernel
theorem dX2_at_12 : decode cX2_at 12 = .ok (.isub, 1) := by decide +kernel
theorem dX2_at_13 : decode cX2_at 13 = .ok (.ireturn, 1) := by decide +kernel
theorem dX2_join_0 : decode cX2_join 0 = .ok (.iload_n 2, 1) := by decide +kernel
theorem dX2_join_1 : decode cX2_join 1 = .ok (.iconst 2, 1) := by decide +kernel
theorem dX2_join_2 : decode cX2_join 2 = .ok (.irem, 1) := by decide +kernel
theorem dX2_join_3 : decode cX2_join 3 = .ok (.ifCond .ne 12, 3) := by decide +kernel
theorem dX2_join_6 : decode cX2_join 6 = .ok (.aload_n 0, 1) := by decide +kernel
theorem dX2_join_7 : decode cX2_join 7 = .ok (.iload_n 1, 1) := by decide +kernel
theorem dX2_join_8 : decode cX2_join 8 = .ok (.iload_n 2, 1) := by decide +kernel
theorem dX2_join_9 : decode cX2_join 9 = .ok (.invokevirtual 73, 3) := by decide +kernel
theorem dX2_join_12 : decode cX2_join 12 = .ok (.goto 9, 3) := by decide +kernel
theorem dX2_join_15 : decode cX2_join 15 = .ok (.aload_n 0, 1) := by decide +kernel
theorem dX2_join_16 : decode cX2_join 16 = .ok (.getfield 25, 3) := by decide +kernel
theorem dX2_join_19 : decode cX2_join 19 = .ok (.iload_n 1, 1) := by decide +kernel
theorem dX2_join_20 : decode cX2_join 20 = .ok (.iaload, 1) := by decide +kernel
theorem dX2_join_21 : decode cX2_join 21 = .ok (.istore_n 3, 1) := by decide +kernel
theorem dX2_join_22 : decode cX2_join 22 = .ok (.iload_n 2, 1) := by decide +kernel
theorem dX2_join_23 : decode cX2_join 23 = .ok (.iconst 2, 1) := by decide +kernel
theorem dX2_join_24 : decode cX2_join 24 = .ok (.irem, 1) := by decide +kernel
theorem dX2_join_25 : decode cX2_join 25 = .ok (.iconst 1, 1) := by decide +kernel
theorem dX2_join_26 : decode cX2_join 26 = .ok (.if_icmp .ne 12, 3) := by decide +kernel
theorem dX2_join_29 : decode cX2_join 29 = .ok (.aload_n 0, 1) := by decide +kernel
theorem dX2_join_30 : decode cX2_join 30 = .ok (.iload_n 1, 1) := by decide +kernel
theorem dX2_join_31 : decode cX2_join 31 = .ok (.iload_n 2, 1) := by decide +kernel
theorem dX2_join_32 : decode cX2_join 32 = .ok (.invokevirtual 73, 3) := by decide +kernel
theorem dX2_join_35 : decode cX2_join 35 = .ok (.goto 9, 3) := by decide +kernel
theorem dX2_join_38 : decode cX2_join 38 = .ok (.aload_n 0, 1) := by decide +kernel
theorem dX2_join_39 : decode cX2_join 39 = .ok (.getfield 28, 3) := by decide +kernel
theorem dX2_join_42 : decode cX2_join 42 = .ok (.iload_n 1, 1) := by decide +kernel
theorem dX2_join_43 : decode cX2_join 43 = .ok (.iaload, 1) := by decide +kernel
theorem dX2_join_44 : decode cX2_join 44 = .ok (.istore 4, 2) := by decide +kernel
theorem dX2_join_46 : decode cX2_join 46 = .ok (.aload_n 0, 1) := by decide +kernel
theorem dX2_join_47 : decode cX2_join 47 = .ok (.aload_n 0, 1) := by decide +kernel
theorem dX2_join_48 : decode cX2_join 48 = .ok (.iload_n 1, 1) := by decide +kernel
theorem dX2_join_49 : decode cX2_join 49 = .ok (.iload_n 2, 1) := by decide +kernel
theorem dX2_join_50 : decode cX2_join 50 = .ok (.invokevirtual 75, 3) := by decide +kernel
theorem dX2_join_53 : decode cX2_join 53 = .ok (.aload_n 0, 1) := by decide +kernel
theorem dX2_join_54 : decode cX2_join 54 = .ok (.iload_n 1, 1) := by decide +kernel
theorem dX2_join_55 : decode cX2_join 55 = .ok (.iload_n 2, 1) := by decide +kernel
theorem dX2_join_56 : decode cX2_join 56 = .ok (.invokevirtual 77, 3) := by decide +kernel
theorem dX2_join_59 : decode cX2_join 59 = .ok (.aload_n 0, 1) := by decide +kernel
theorem dX2_join_60 : decode cX2_join 60 = .ok (.iload_n 1, 1) := by decide +kernel
theorem dX2_join_61 : decode cX2_join 61 = .ok (.iload_n 2, 1) := by decide +kernel
theorem dX2_join_62 : decode cX2_join 62 = .ok (.invokevirtual 80, 3) := by decide +kernel
theorem dX2_join_65 : decode cX2_join 65 = .ok (.iload_n 3, 1) := by decide +kernel
theorem dX2_join_66 : decode cX2_join 66 = .ok (.iload 4, 2) := by decide +kernel
theorem dX2_join_68 : decode cX2_join 68 = .ok (.invokevirtual 60, 3) := by decide +kernel
theorem dX2_join_71 : decode cX2_join 71 = .ok (.return_, 1) := by decide +kernel
theorem dX2_turned_0 : decode cX2_turned 0 = .ok (.aload_n 0, 1) := by decide +kernel
theorem dX2_turned_1 : decode cX2_turned 1 = .ok (.getfield 34, 3) := by decide +kernel
theorem dX2_turned_4 : decode cX2_turned 4 = .ok (.iload_n 1, 1) := by decide +kernel
theorem dX2_turned_5 : decode cX2_turned 5 = .ok (.aaload, 1) := by decide +kernel
theorem dX2_turned_6 : decode cX2_turned 6 = .ok (.getfield 70, 3) := by decide +kernel
theorem dX2_turned_9 : decode cX2_turned 9 = .ok (.aload_n 0, 1) := by decide +kernel
theorem dX2_turned_10 : decode cX2_turned 10 = .ok (.iload_n 1, 1) := by decide +kernel
theorem dX2_turned_11 : decode cX2_turned 11 = .ok (.iload_n 2, 1) := by decide +kernel
theorem dX2_turned_12 : decode cX2_turned 12 = .ok (.invokevirtual 67, 3) := by decide +kernel
theorem dX2_turned_15 : decode cX2_turned 15 = .ok (.iaload, 1) := by decide +kernel
theorem dX2_turned_16 : decode cX2_turned 16 = .ok (.iload_n 2, 1) := by decide +kernel
theorem dX2_turned_17 : decode cX2_turned 17 = .ok (.iconst 1, 1) := by decide +kernel
theorem dX2_turned_18 : decode cX2_turned 18 = .ok (.ishr, 1) := by decide +kernel
theorem dX2_turned_19 : decode cX2_turned 19 = .ok (.ixor, 1) := by decide +kernel
theorem dX2_turned_20 : decode cX2_turned 20 = .ok (.ireturn, 1) := by decide +kernel
theorem dX3_init_0 : decode cX3_init 0 = .ok (.aload_n 0, 1) := by decide +kernel
theorem dX3_init_1 : decode cX3_init 1 = .ok (.invokespecial 1, 3) := by decide +kernel
theorem dX3_init_4 : decode cX3_init 4 = .ok (.aload_n 0, 1) := by decide +kernel
theorem dX3_init_5 : decode cX3_init 5 = .ok (.bipush 6, 2) := by decide +kernel
theorem dX3_init_7 : decode cX3_init 7 = .ok (.newarray .int, 2) := by decide +kernel
theorem dX3_init_9 : decode cX3_init 9 = .ok (.putfield 7, 3) := by decide +kernel
theorem dX3_init_12 : decode cX3_init 12 = .ok (.aload_n 0, 1) := by decide +kernel
theorem dX3_init_13 : decode cX3_init 13 = .ok (.bipush 6, 2) := by decide +kernel
theorem dX3_init_15 : decode cX3_init 15 = .ok (.newarray .int, 2) := by decide +kernel
theorem dX3_init_17 : decode cX3_init 17 = .ok (.putfield 13, 3) := by decide +kernel
theorem dX3_init_20 : decode cX3_init 20 = .ok (.return_, 1) := by decide +kernel
theorem dJ0_fill_0 : decode cJ0_fill 0 = .ok (.iconst 0, 1) := by decide +kernel
theorem dJ0_fill_1 : decode cJ0_fill 1 = .ok (.istore_n 3, 1) := by decide +kernel
theorem dJ0_fill_2 : decode cJ0_fill 2 = .ok (.aload_n 0, 1) := by decide +kernel
theorem dJ0_fill_3 : decode cJ0_fill 3 = .ok (.arraylength, 1) := by decide +kernel
theorem dJ0_fill_4 : decode cJ0_fill 4 = .ok (.istore 4, 2) := by decide +kernel
theorem dJ0_fill_6 : decode cJ0_fill 6 = .ok (.iload_n 3, 1) := by decide +kernel
theorem dJ0_fill_7 : decode cJ0_fill 7 = .ok (.iload 4, 2) := by decide +kernel
theorem dJ0_fill_9 : decode cJ0_fill 9 = .ok (.if_icmp .ge 13, 3) := by decide +kernel
theorem dJ0_fill_12 : decode cJ0_fill 12 = .ok (.aload_n 0, 1) := by decide +kernel
theorem dJ0_fill_13 : decode cJ0_fill 13 = .ok (.iload_n 3, 1) := by decide +kernel
theorem dJ0_fill_14 : decode cJ0_fill 14 = .ok (.lload_n 1, 1) := by decide +kernel
theorem dJ0_fill_15 : decode cJ0_fill 15 = .ok (.lastore, 1) := by decide +kernel
theorem dJ0_fill_16 : decode cJ0_fill 16 = .ok (.iinc 3 1, 3) := by decide +kernel
theorem dJ0_fill_19 : decode cJ0_fill 19 = .ok (.goto (-13), 3) := by decide +kernel
theorem dJ0_fill_22 : decode cJ0_fill 22 = .ok (.return_, 1) := by decide +kernel
theorem dJ0_sort_0 : decode cJ0_sort 0 = .ok (.aload_n 0, 1) := by decide +kernel
theorem dJ0_sort_1 : decode cJ0_sort 1 = .ok (.arraylength, 1) := by decide +kernel
theorem dJ0_sort_2 : decode cJ0_sort 2 = .ok (.iload_n 1, 1) := by decide +kernel
theorem dJ0_sort_3 : decode cJ0_sort 3 = .ok (.iload_n 2, 1) := by decide +kernel
theorem dJ0_sort_4 : decode cJ0_sort 4 = .ok (.invokestatic 13, 3) := by decide +kernel
theorem dJ0_sort_7 : decode cJ0_sort 7 = .ok (.aload_n 0, 1) := by decide +kernel
theorem dJ0_sort_8 : decode cJ0_sort 8 = .ok (.iconst 0, 1) := by decide +kernel
theorem dJ0_sort_9 : decode cJ0_sort 9 = .ok (.iload_n 1, 1) := by decide +kernel
theorem dJ0_sort_10 : decode cJ0_sort 10 = .ok (.iload_n 2, 1) := by decide +kernel
theorem dJ0_sort_11 : decode cJ0_sort 11 = .ok (.invokestatic 7, 3) := by decide +kernel
theorem dJ0_sort_14 : decode cJ0_sort 14 = .ok (.return_, 1) := by decide +kernel
theorem dJ0_rangeCheck_0 : decode cJ0_rangeCheck 0 = .ok (.iload_n 1, 1) := by decide +kernel
theorem dJ0_rangeCheck_1 : decode cJ0_rangeCheck 1 = .ok (.iload_n 2, 1) := by decide +kernel
theorem dJ0_rangeCheck_2 : decode cJ0_rangeCheck 2 = .ok (.if_icmp .le 44, 3) := by decide +kernel
theorem dJ0_rangeCheck_5 : decode cJ0_rangeCheck 5 = .ok (.new 43, 3) := by decide +kernel
theorem dJ0_rangeCheck_8 : decode cJ0_rangeCheck 8 = .ok (.dup, 1) := by decide +kernel
theorem dJ0_rangeCheck_9 : decode cJ0_rangeCheck 9 = .ok (.new 45, 3) := by decide +kernel
theorem dJ0_rangeCheck_12 : decode cJ0_rangeCheck 12 = .ok (.dup, 1) := by decide +kernel
theorem dJ0_rangeCheck_13 : decode cJ0_rangeCheck 13 = .ok (.invokespecial 47, 3) := by decide +kernel
theorem dJ0_rangeCheck_16 : decode cJ0_rangeCheck 16 = .ok (.ldc 48, 2) := by decide +kernel
theorem dJ0_rangeCheck_18 : decode cJ0_rangeCheck 18 = .ok (.invokevirtual 50, 3) := by decide +kernel
theorem dJ0_rangeCheck_21 : decode cJ0_rangeCheck 21 = .ok (.iload_n 1, 1) := by decide +kernel
theorem dJ0_rangeCheck_22 : decode cJ0_rangeCheck 22 = .ok (.invokevirtual 54, 3) := by decide +kernel
theorem dJ0_rangeCheck_25 : decode cJ0_rangeCheck 25 = .ok (.ldc 57, 2) := by decide +kernel
theorem dJ0_rangeCheck_27 : decode cJ0_rangeCheck 27 = .ok (.invokevirtual 50, 3) := by decide +kernel
theorem dJ0_rangeCheck_30 : decode cJ0_rangeCheck 30 = .ok (.iload_n 2, 1) := by decide +kernel
theorem dJ0_rangeCheck_31 : decode cJ0_rangeCheck 31 = .ok (.invokevirtual 54, 3) := by decide +kernel
theorem dJ0_rangeCheck_34 : decode cJ0_rangeCheck 34 = .ok (.ldc 59, 2) := by decide +kernel
theorem dJ0_rangeCheck_36 : decode cJ0_rangeCheck 36 = .ok (.invokevirtual 50, 3) := by decide +kernel
theorem dJ0_rangeCheck_39 : decode cJ0_rangeCheck 39 = .ok (.invokevirtual 61, 3) := by decide +kernel
theorem dJ0_rangeCheck_42 : decode cJ0_rangeCheck 42 = .ok (.invokespecial 65, 3) := by decide +kernel
theorem dJ0_rangeCheck_45 : decode cJ0_rangeCheck 45 = .ok (.athrow, 1) := by decide +kernel
theorem dJ0_rangeCheck_46 : decode cJ0_rangeCheck 46 = .ok (.iload_n 1, 1) := by decide +kernel
theorem dJ0_rangeCheck_47 : decode cJ0_rangeCheck 47 = .ok (.ifCond .ge 12, 3) := by decide +kernel
theorem dJ0_rangeCheck_50 : decode cJ0_rangeCheck 50 = .ok (.new 68, 3) := by decide +kernel
theorem dJ0_rangeCheck_53 : decode cJ0_rangeCheck 53 = .ok (.dup, 1) := by decide +kernel
theorem dJ0_rangeCheck_54 : decode cJ0_rangeCheck 54 = .ok (.iload_n 1, 1) := by decide +kernel
theorem dJ0_rangeCheck_55 : decode cJ0_rangeCheck 55 = .ok (.invokespecial 70, 3) := by decide +kernel
theorem dJ0_rangeCheck_58 : decode cJ0_rangeCheck 58 = .ok (.athrow, 1) := by decide +kernel
theorem dJ0_rangeCheck_59 : decode cJ0_rangeCheck 59 = .ok (.iload_n 2, 1) := by decide +kernel
theorem dJ0_rangeCheck_60 : decode cJ0_rangeCheck 60 = .ok (.iload_n 0, 1) := by decide +kernel
theorem dJ0_rangeCheck_61 : decode cJ0_rangeCheck 61 = .ok (.if_icmp .le 12, 3) := by decide +kernel
theorem dJ0_rangeCheck_64 : decode cJ0_rangeCheck 64 = .ok (.new 68, 3) := by decide +kernel
theorem dJ0_rangeCheck_67 : decode cJ0_rangeCheck 67 = .ok (.dup, 1) := by decide +kernel
theorem dJ0_rangeCheck_68 : decode cJ0_rangeCheck 68 = .ok (.iload_n 2, 1) := by decide +kernel
theorem dJ0_rangeCheck_69 : decode cJ0_rangeCheck 69 = .ok (.invokespecial 70, 3) := by decide +kernel
theorem dJ0_rangeCheck_72 : decode cJ0_rangeCheck 72 = .ok (.athrow, 1) := by decide +kernel
theorem dJ0_rangeCheck_73 : decode cJ0_rangeCheck 73 = .ok (.return_, 1) := by decide +kernel
theorem dJ0_fill_2_0 : decode cJ0_fill_2 0 = .ok (.iconst 0, 1) := by decide +kernel
theorem dJ0_fill_2_1 : decode cJ0_fill_2 1 = .ok (.istore_n 2, 1) := by decide +kernel
theorem dJ0_fill_2_2 : decode cJ0_fill_2 2 = .ok (.aload_n 0, 1) := by decide +kernel
theorem dJ0_fill_2_3 : decode cJ0_fill_2 3 = .ok (.arraylength, 1) := by decide +kernel
theorem dJ0_fill_2_4 : decode cJ0_fill_2 4 = .ok (.istore_n 3, 1) := by decide +kernel
theorem dJ0_fill_2_5 : decode cJ0_fill_2 5 = .ok (.iload_n 2, 1) := by decide +kernel
theorem dJ0_fill_2_6 : decode cJ0_fill_2 6 = .ok (.iload_n 3, 1) := by decide +kernel
theorem dJ0_fill_2_7 : decode cJ0_fill_2 7 = .ok (.if_icmp .ge 13, 3) := by decide +kernel
theorem dJ0_fill_2_10 : decode cJ0_fill_2 10 = .ok (.aload_n 0, 1) := by decide +kernel
theorem dJ0_fill_2_11 : decode cJ0_fill_2 11 = .ok (.iload_n 2, 1) := by decide +kernel
theorem dJ0_fill_2_12 : decode cJ0_fill_2 12 = .ok (.iload_n 1, 1) := by decide +kernel
theorem dJ0_fill_2_13 : decode cJ0_fill_2 13 = .ok (.iastore, 1) := by decide +kernel
theorem dJ0_fill_2_14 : decode cJ0_fill_2 14 = .ok (.iinc 2 1, 3) := by decide +kernel
theorem dJ0_fill_2_17 : decode cJ0_fill_2 17 = .ok (.goto (-12), 3) := by decide +kernel
theorem dJ0_fill_2_20 : decode cJ0_fill_2 20 = .ok (.return_, 1) := by decide +kernel
theorem dJ1_min_0 : decode cJ1_min 0 = .ok (.iload_n 0, 1) := by decide +kernel
theorem dJ1_min_1 : decode cJ1_min 1 = .ok (.iload_n 1, 1) := by decide +kernel
theorem dJ1_min_2 : decode cJ1_min 2 = .ok (.if_icmp .gt 7, 3) := by decide +kernel
theorem dJ1_min_5 : decode cJ1_min 5 = .ok (.iload_n 0, 1) := by decide +kernel
theorem dJ1_min_6 : decode cJ1_min 6 = .ok (.goto 4, 3) := by decide +kernel
theorem dJ1_min_9 : decode cJ1_min 9 = .ok (.iload_n 1, 1) := by decide +kernel
theorem dJ1_min_10 : decode cJ1_min 10 = .ok (.ireturn, 1) := by decide +kernel
theorem dJ1_max_0 : decode cJ1_max 0 = .ok (.iload_n 0, 1) := by decide +kernel
theorem dJ1_max_1 : decode cJ1_max 1 = .ok (.iload_n 1, 1) := by decide +kernel
theorem dJ1_max_2 : decode cJ1_max 2 = .ok (.if_icmp .lt 7, 3) := by decide +kernel
theorem dJ1_max_5 : decode cJ1_max 5 = .ok (.iload_n 0, 1) := by decide +kernel
theorem dJ1_max_6 : decode cJ1_max 6 = .ok (.goto 4, 3) := by decide +kernel
theorem dJ1_max_9 : decode cJ1_max 9 = .ok (.iload_n 1, 1) := by decide +kernel
theorem dJ1_max_10 : decode cJ1_max 10 = .ok (.ireturn, 1) := by decide +kernel
theorem dJ2_sort_0 : decode cJ2_sort 0 = .ok (.iload_n 3, 1) := by decide +kernel
theorem dJ2_sort_1 : decode cJ2_sort 1 = .ok (.iload_n 2, 1) := by decide +kernel
theorem dJ2_sort_2 : decode cJ2_sort 2 = .ok (.isub, 1) := by decide +kernel
theorem dJ2_sort_3 : decode cJ2_sort 3 = .ok (.istore 4, 2) := by decide +kernel
theorem dJ2_sort_5 : decode cJ2_sort 5 = .ok (.iload_n 1, 1) := by decide +kernel
theorem dJ2_sort_6 : decode cJ2_sort 6 = .ok (.iconst 1, 1) := by decide +kernel
theorem dJ2_sort_7 : decode cJ2_sort 7 = .ok (.if_icmp .le 61, 3) := by decide +kernel
theorem dJ2_sort_10 : decode cJ2_sort 10 = .ok (.iload 4, 2) := by decide +kernel
theorem dJ2_sort_12 : decode cJ2_sort 12 = .ok (.sipush 4096, 3) := by decide +kernel
theorem dJ2_sort_15 : decode cJ2_sort 15 = .ok (.if_icmp .le 53, 3) := by decide +kernel
theorem dJ2_sort_18 : decode cJ2_sort 18 = .ok (.iload_n 1, 1) := by decide +kernel
theorem dJ2_sort_19 : decode cJ2_sort 19 = .ok (.iload 4, 2) := by decide +kernel
theorem dJ2_sort_21 : decode cJ2_sort 21 = .ok (.bipush 12, 2) := by decide +kernel
theorem dJ2_sort_23 : decode cJ2_sort 23 = .ok (.ishr, 1) := by decide +kernel
theorem dJ2_sort_24 : decode cJ2_sort 24 = .ok (.invokestatic 13, 3) := by decide +kernel
theorem dJ2_sort_27 : decode cJ2_sort 27 = .ok (.istore 5, 2) := by decide +kernel
theorem dJ2_sort_29 : decode cJ2_sort 29 = .ok (.iload 5, 2) := by decide +kernel
theorem dJ2_sort_31 : decode cJ2_sort 31 = .ok (.ifCond .ne 7, 3) := by decide +kernel
theorem dJ2_sort_34 : decode cJ2_sort 34 = .ok (.aconst_null, 1) := by decide +kernel
theorem dJ2_sort_35 : decode cJ2_sort 35 = .ok (.goto 7, 3) := by decide +kernel
theorem dJ2_sort_38 : decode cJ2_sort 38 = .ok (.iload 4, 2) := by decide +kernel
theorem dJ2_sort_40 : decode cJ2_sort 40 = .ok (.newarray .int, 2) := by decide +kernel
theorem dJ2_sort_42 : decode cJ2_sort 42 = .ok (.astore 6, 2) := by decide +kernel
theorem dJ2_sort_44 : decode cJ2_sort 44 = .ok (.new 17, 3) := by decide +kernel
theorem dJ2_sort_47 : decode cJ2_sort 47 = .ok (.dup, 1) := by decide +kernel
theorem dJ2_sort_48 : decode cJ2_sort 48 = .ok (.aconst_null, 1) := by decide +kernel
theorem dJ2_sort_49 : decode cJ2_sort 49 = .ok (.aload_n 0, 1) := by decide +kernel
theorem dJ2_sort_50 : decode cJ2_sort 50 = .ok (.aload 6, 2) := by decide +kernel
theorem dJ2_sort_52 : decode cJ2_sort 52 = .ok (.iload_n 2, 1) := by decide +kernel
theorem dJ2_sort_53 : decode cJ2_sort 53 = .ok (.iload 4, 2) := by decide +kernel
theorem dJ2_sort_55 : decode cJ2_sort 55 = .ok (.iload_n 2, 1) := by decide +kernel
theorem dJ2_sort_56 : decode cJ2_sort 56 = .ok (.iload 5, 2) := by decide +kernel
theorem dJ2_sort_58 : decode cJ2_sort 58 = .ok (.invokespecial 19, 3) := by decide +kernel
theorem dJ2_sort_61 : decode cJ2_sort 61 = .ok (.invokevirtual 22, 3) := by decide +kernel
theorem dJ2_sort_64 : decode cJ2_sort 64 = .ok (.pop, 1) := by decide +kernel
theorem dJ2_sort_65 : decode cJ2_sort 65 = .ok (.goto 11, 3) := by decide +kernel
theorem dJ2_sort_68 : decode cJ2_sort 68 = .ok (.aconst_null, 1) := by decide +kernel
theorem dJ2_sort_69 : decode cJ2_sort 69 = .ok (.aload_n 0, 1) := by decide +kernel
theorem dJ2_sort_70 : decode cJ2_sort 70 = .ok (.iconst 0, 1) := by decide +kernel
theorem dJ2_sort_71 : decode cJ2_sort 71 = .ok (.iload_n 2, 1) := by decide +kernel
theorem dJ2_sort_72 : decode cJ2_sort 72 = .ok (.iload_n 3, 1) := by decide +kernel
theorem dJ2_sort_73 : decode cJ2_sort 73 = .ok (.invokestatic 26, 3) := by decide +kernel
theorem dJ2_sort_76 : decode cJ2_sort 76 = .ok (.return_, 1) := by decide +kernel
theorem dJ2_sort_2_0 : decode cJ2_sort_2 0 = .ok (.iload 4, 2) := by decide +kernel
theorem dJ2_sort_2_2 : decode cJ2_sort_2 2 = .ok (.iconst 1, 1) := by decide +kernel
theorem dJ2_sort_2_3 : decode cJ2_sort_2 3 = .ok (.isub, 1) := by decide +kernel
theorem dJ2_sort_2_4 : decode cJ2_sort_2 4 = .ok (.istore 5, 2) := by decide +kernel
theorem dJ2_sort_2_6 : decode cJ2_sort_2 6 = .ok (.iload 4, 2) := by decide +kernel
theorem dJ2_sort_2_8 : decode cJ2_sort_2 8 = .ok (.iload_n 3, 1) := by decide +kernel
theorem dJ2_sort_2_9 : decode cJ2_sort_2 9 = .ok (.isub, 1) := by decide +kernel
theorem dJ2_sort_2_10 : decode cJ2_sort_2 10 = .ok (.istore 6, 2) := by decide +kernel
theorem dJ2_sort_2_12 : decode cJ2_sort_2 12 = .ok (.iload 6, 2) := by decide +kernel
theorem dJ2_sort_2_14 : decode cJ2_sort_2 14 = .ok (.bipush 65, 2) := by decide +kernel
theorem dJ2_sort_2_16 : decode cJ2_sort_2 16 = .ok (.iload_n 2, 1) := by decide +kernel
theorem dJ2_sort_2_17 : decode cJ2_sort_2 17 = .ok (.iadd, 1) := by decide +kernel
theorem dJ2_sort_2_18 : decode cJ2_sort_2 18 = .ok (.if_icmp .ge 28, 3) := by decide +kernel
theorem dJ2_sort_2_21 : decode cJ2_sort_2 21 = .ok (.iload_n 2, 1) := by decide +kernel
theorem dJ2_sort_2_22 : decode cJ2_sort_2 22 = .ok (.iconst 1, 1) := by decide +kernel
theorem dJ2_sort_2_23 : decode cJ2_sort_2 23 = .ok (.iand, 1) := by decide +kernel
theorem dJ2_sort_2_24 : decode cJ2_sort_2 24 = .ok (.ifCond .le 22, 3) := by decide +kernel
theorem dJ2_sort_2_27 : decode cJ2_sort_2 27 = .ok (.aload_n 1, 1) := by decide +kernel
theorem dJ2_sort_2_28 : decode cJ2_sort_2 28 = .ok (.iload_n 3, 1) := by decide +kernel
theorem dJ2_sort_2_29 : decode cJ2_sort_2 29 = .ok (.iload 4, 2) := by decide +kernel
theorem dJ2_sort_2_31 : decode cJ2_sort_2 31 = .ok (.iconst 3, 1) := by decide +kernel
theorem dJ2_sort_2_32 : decode cJ2_sort_2 32 = .ok (.iload 6, 2) := by decide +kernel
theorem dJ2_sort_2_34 : decode cJ2_sort_2 34 = .ok (.iconst 5, 1) := by decide +kernel
theorem dJ2_sort_2_35 : decode cJ2_sort_2 35 = .ok (.ishr, 1) := by decide +kernel
theorem dJ2_sort_2_36 : decode cJ2_sort_2 36 = .ok (.iconst 3, 1) := by decide +kernel
theorem dJ2_sort_2_37 : decode cJ2_sort_2 37 = .ok (.ishl, 1) := by decide +kernel
theorem dJ2_sort_2_38 : decode cJ2_sort_2 38 = .ok (.imul, 1) := by decide +kernel
theorem dJ2_sort_2_39 : decode cJ2_sort_2 39 = .ok (.isub, 1) := by decide +kernel
theorem dJ2_sort_2_40 : decode cJ2_sort_2 40 = .ok (.iload 4, 2) := by decide +kernel
theorem dJ2_sort_2_42 : decode cJ2_sort_2 42 = .ok (.invokestatic 30, 3) := by decide +kernel
theorem dJ2_sort_2_45 : decode cJ2_sort_2 45 = .ok (.return_, 1) := by decide +kernel
theorem dJ2_sort_2_46 : decode cJ2_sort_2 46 = .ok (.iload 6, 2) := by decide +kernel
theorem dJ2_sort_2_48 : decode cJ2_sort_2 48 = .ok (.bipush 44, 2) := by decide +kernel
theorem dJ2_sort_2_50 : decode cJ2_sort_2 50 = .ok (.if_icmp .ge 11, 3) := by decide +kernel
theorem dJ2_sort_2_53 : decode cJ2_sort_2 53 = .ok (.aload_n 1, 1) := by decide +kernel
theorem dJ2_sort_2_54 : decode cJ2_sort_2 54 = .ok (.iload_n 3, 1) := by decide +kernel
theorem dJ2_sort_2_55 : decode cJ2_sort_2 55 = .ok (.iload 4, 2) := by decide +kernel
theorem dJ2_sort_2_57 : decode cJ2_sort_2 57 = .ok (.invokestatic 34, 3) := by decide +kernel
theorem dJ2_sort_2_60 : decode cJ2_sort_2 60 = .ok (.return_, 1) := by decide +kernel
theorem dJ2_sort_2_61 : decode cJ2_sort_2 61 = .ok (.iload_n 2, 1) := by decide +kernel
theorem dJ2_sort_2_62 : decode cJ2_sort_2 62 = .ok (.ifCond .eq 17, 3) := by decide +kernel
theorem dJ2_sort_2_65 : decode cJ2_sort_2 65 = .ok (.iload 6, 2) := by decide +kernel
theorem dJ2_sort_2_67 : decode cJ2_sort_2 67 = .ok (.sipush 4096, 3) := by decide +kernel
theorem dJ2_sort_2_70 : decode cJ2_sort_2 70 = .ok (.if_icmp .le 21, 3) := by decide +kernel
theorem dJ2_sort_2_73 : decode cJ2_sort_2 73 = .ok (.iload_n 2, 1) := by decide +kernel
theorem dJ2_sort_2_74 : decode cJ2_sort_2 74 = .ok (.iconst 1, 1) := by decide +kernel
theorem dJ2_sort_2_75 : decode cJ2_sort_2 75 = .ok (.iand, 1) := by decide +kernel
theorem dJ2_sort_2_76 : decode cJ2_sort_2 76 = .ok (.ifCond .le 15, 3) := by decide +kernel
theorem dJ2_sort_2_79 : decode cJ2_sort_2 79 = .ok (.aload_n 0, 1) := by decide +kernel
theorem dJ2_sort_2_80 : decode cJ2_sort_2 80 = .ok (.aload_n 1, 1) := by decide +kernel
theorem dJ2_sort_2_81 : decode cJ2_sort_2 81 = .ok (.iload_n 3, 1) := by decide +kernel
theorem dJ2_sort_2_82 : decode cJ2_sort_2 82 = .ok (.iload 6, 2) := by decide +kernel
theorem dJ2_sort_2_84 : decode cJ2_sort_2 84 = .ok (.invokestatic 38, 3) := by decide +kernel
theorem dJ2_sort_2_87 : decode cJ2_sort_2 87 = .ok (.ifCond .eq 4, 3) := by decide +kernel
theorem dJ2_sort_2_90 : decode cJ2_sort_2 90 = .ok (.return_, 1) := by decide +kernel
theorem dJ2_sort_2_91 : decode cJ2_sort_2 91 = .ok (.iinc 2 6, 3) := by decide +kernel
theorem dJ2_sort_2_94 : decode cJ2_sort_2 94 = .ok (.iload_n 2, 1) := by decide +kernel
theorem dJ2_sort_2_95 : decode cJ2_sort_2 95 = .ok (.sipush 384, 3) := by decide +kernel
theorem dJ2_sort_2_98 : decode cJ2_sort_2 98 = .ok (.if_icmp .le 11, 3) := by decide +kernel
theorem dJ2_sort_2_101 : decode cJ2_sort_2 101 = .ok (.aload_n 1, 1) := by decide +kernel
theorem dJ2_sort_2_102 : decode cJ2_sort_2 102 = .ok (.iload_n 3, 1) := by decide +kernel
theorem dJ2_sort_2_103 : decode cJ2_sort_2 103 = .ok (.iload 4, 2) := by decide +kernel
theorem dJ2_sort_2_105 : decode cJ2_sort_2 105 = .ok (.invokestatic 42, 3) := by decide +kernel
theorem dJ2_sort_2_108 : decode cJ2_sort_2 108 = .ok (.return_, 1) := by decide +kernel
theorem dJ2_sort_2_109 : decode cJ2_sort_2 109 = .ok (.iload 6, 2) := by decide +kernel
theorem dJ2_sort_2_111 : decode cJ2_sort_2 111 = .ok (.iconst 3, 1) := by decide +kernel
theorem dJ2_sort_2_112 : decode cJ2_sort_2 112 = .ok (.ishr, 1) := by decide +kernel
theorem dJ2_sort_2_113 : decode cJ2_sort_2 113 = .ok (.iconst 3, 1) := by decide +kernel
theorem dJ2_sort_2_114 : decode cJ2_sort_2 114 = .ok (.imul, 1) := by decide +kernel
theorem dJ2_sort_2_115 : decode cJ2_sort_2 115 = .ok (.iconst 3, 1) := by decide +kernel
theorem dJ2_sort_2_116 : decode cJ2_sort_2 116 = .ok (.iadd, 1) := by decide +kernel
theorem dJ2_sort_2_117 : decode cJ2_sort_2 117 = .ok (.istore 7, 2) := by decide +kernel
theorem dJ2_sort_2_119 : decode cJ2_sort_2 119 = .ok (.iload_n 3, 1) := by decide +kernel
theorem dJ2_sort_2_120 : decode cJ2_sort_2 120 = .ok (.iload 7, 2) := by decide +kernel
theorem dJ2_sort_2_122 : decode cJ2_sort_2 122 = .ok (.iadd, 1) := by decide +kernel
theorem dJ2_sort_2_123 : decode cJ2_sort_2 123 = .ok (.istore 8, 2) := by decide +kernel
theorem dJ2_sort_2_125 : decode cJ2_sort_2 125 = .ok (.iload 5, 2) := by decide +kernel
theorem dJ2_sort_2_127 : decode cJ2_sort_2 127 = .ok (.iload 7, 2) := by decide +kernel
theorem dJ2_sort_2_129 : decode cJ2_sort_2 129 = .ok (.isub, 1) := by decide +kernel
theorem dJ2_sort_2_130 : decode cJ2_sort_2 130 = .ok (.istore 9, 2) := by decide +kernel
theorem dJ2_sort_2_132 : decode cJ2_sort_2 132 = .ok (.iload 8, 2) := by decide +kernel
theorem dJ2_sort_2_134 : decode cJ2_sort_2 134 = .ok (.iload 9, 2) := by decide +kernel
theorem dJ2_sort_2_136 : decode cJ2_sort_2 136 = .ok (.iadd, 1) := by decide +kernel
theorem dJ2_sort_2_137 : decode cJ2_sort_2 137 = .ok (.iconst 1, 1) := by decide +kernel
theorem dJ2_sort_2_138 : decode cJ2_sort_2 138 = .ok (.iushr, 1) := by decide +kernel
theorem dJ2_sort_2_139 : decode cJ2_sort_2 139 = .ok (.istore 10, 2) := by decide +kernel
theorem dJ2_sort_2_141 : decode cJ2_sort_2 141 = .ok (.iload 8, 2) := by decide +kernel
theorem dJ2_sort_2_143 : decode cJ2_sort_2 143 = .ok (.iload 10, 2) := by decide +kernel
theorem dJ2_sort_2_145 : decode cJ2_sort_2 145 = .ok (.iadd, 1) := by decide +kernel
theorem dJ2_sort_2_146 : decode cJ2_sort_2 146 = .ok (.iconst 1, 1) := by decide +kernel
theorem dJ2_sort_2_147 : decode cJ2_sort_2 147 = .ok (.iushr, 1) := by decide +kernel
theorem dJ2_sort_2_148 : decode cJ2_sort_2 148 = .ok (.istore 11, 2) := by decide +kernel
theorem dJ2_sort_2_150 : decode cJ2_sort_2 150 = .ok (.iload 10, 2) := by decide +kernel
theorem dJ2_sort_2_152 : decode cJ2_sort_2 152 = .ok (.iload 9, 2) := by decide +kernel
theorem dJ2_sort_2_154 : decode cJ2_sort_2 154 = .ok (.iadd, 1) := by decide +kernel
theorem dJ2_sort_2_155 : decode cJ2_sort_2 155 = .ok (.iconst 1, 1) := by decide +kernel
theorem dJ2_sort_2_156 : decode cJ2_sort_2 156 = .ok (.iushr, 1) := by decide +kernel
theorem dJ2_sort_2_157 : decode cJ2_sort_2 157 = .ok (.istore 12, 2) := by decide +kernel
theorem dJ2_sort_2_159 : decode cJ2_sort_2 159 = .ok (.aload_n 1, 1) := by decide +kernel
theorem dJ2_sort_2_160 : decode cJ2_sort_2 160 = .ok (.iload 10, 2) := by decide +kernel
theorem dJ2_sort_2_162 : decode cJ2_sort_2 162 = .ok (.iaload, 1) := by decide +kernel
theorem dJ2_sort_2_163 : decode cJ2_sort_2 163 = .ok (.istore 13, 2) := by decide +kernel
theorem dJ2_sort_2_165 : decode cJ2_sort_2 165 = .ok (.aload_n 1, 1) := by decide +kernel
theorem dJ2_sort_2_166 : decode cJ2_sort_2 166 = .ok (.iload 9, 2) := by decide +kernel
theorem dJ2_sort_2_168 : decode cJ2_sort_2 168 = .ok (.iaload, 1) := by decide +kernel
theorem dJ2_sort_2_169 : decode cJ2_sort_2 169 = .ok (.aload_n 1, 1) := by decide +kernel
theorem dJ2_sort_2_170 : decode cJ2_sort_2 170 = .ok (.iload 11, 2) := by decide +kernel
theorem dJ2_sort_2_172 : decode cJ2_sort_2 172 = .ok (.iaload, 1) := by decide +kernel
theorem dJ2_sort_2_173 : decode cJ2_sort_2 173 = .ok (.if_icmp .ge 23, 3) := by decide +kernel
theorem dJ2_sort_2_176 : decode cJ2_sort_2 176 = .ok (.aload_n 1, 1) := by decide +kernel
theorem dJ2_sort_2_177 : decode cJ2_sort_2 177 = .ok (.iload 9, 2) := by decide +kernel
theorem dJ2_sort_2_179 : decode cJ2_sort_2 179 = .ok (.iaload, 1) := by decide +kernel
theorem dJ2_sort_2_180 : decode cJ2_sort_2 180 = .ok (.istore 14, 2) := by decide +kernel
theorem dJ2_sort_2_182 : decode cJ2_sort_2 182 = .ok (.aload_n 1, 1) := by decide +kernel
theorem dJ2_sort_2_183 : decode cJ2_sort_2 183 = .ok (.iload 9, 2) := by decide +kernel
theorem dJ2_sort_2_185 : decode cJ2_sort_2 185 = .ok (.aload_n 1, 1) := by decide +kernel
theorem dJ2_sort_2_186 : decode cJ2_sort_2 186 = .ok (.iload 11, 2) := by decide +kernel
theorem dJ2_sort_2_188 : decode cJ2_sort_2 188 = .ok (.iaload, 1) := by decide +kernel
theorem dJ2_sort_2_189 : decode cJ2_sort_2 189 = .ok (.iastore, 1) := by decide +kernel
theorem dJ2_sort_2_190 : decode cJ2_sort_2 190 = .ok (.aload_n 1, 1) := by decide +kernel
theorem dJ2_sort_2_191 : decode cJ2_sort_2 191 = .ok (.iload 11, 2) := by decide +kernel
theorem dJ2_sort_2_193 : decode cJ2_sort_2 193 = .ok (.iload 14, 2) := by decide +kernel
theorem dJ2_sort_2_195 : decode cJ2_sort_2 195 = .ok (.iastore, 1) := by decide +kernel
theorem dJ2_sort_2_196 : decode cJ2_sort_2 196 = .ok (.aload_n 1, 1) := by decide +kernel
theorem dJ2_sort_2_197 : decode cJ2_sort_2 197 = .ok (.iload 12, 2) := by decide +kernel
theorem dJ2_sort_2_199 : decode cJ2_sort_2 199 = .ok (.iaload, 1) := by decide +kernel
theorem dJ2_sort_2_200 : decode cJ2_sort_2 200 = .ok (.aload_n 1, 1) := by decide +kernel
theorem dJ2_sort_2_201 : decode cJ2_sort_2 201 = .ok (.iload 8, 2) := by decide +kernel
theorem dJ2_sort_2_203 : decode cJ2_sort_2 203 = .ok (.iaload, 1) := by decide +kernel
theorem dJ2_sort_2_204 : decode cJ2_sort_2 204 = .ok (.if_icmp .ge 23, 3) := by decide +kernel
theorem dJ2_sort_2_207 : decode cJ2_sort_2 207 = .ok (.aload_n 1, 1) := by decide +kernel
theorem dJ2_sort_2_208 : decode cJ2_sort_2 208 = .ok (.iload 12, 2) := by decide +kernel
theorem dJ2_sort_2_210 : decode cJ2_sort_2 210 = .ok (.iaload, 1) := by decide +kernel
theorem dJ2_sort_2_211 : decode cJ2_sort_2 211 = .ok (.istore 14, 2) := by decide +kernel
theorem dJ2_sort_2_213 : decode cJ2_sort_2 213 = .ok (.aload_n 1, 1) := by decide +kernel
theorem dJ2_sort_2_214 : decode cJ2_sort_2 214 = .ok (.iload 12, 2) := by decide +kernel
theorem dJ2_sort_2_216 : decode cJ2_sort_2 216 = .ok (.aload_n 1, 1) := by decide +kernel
theorem dJ2_sort_2_217 : decode cJ2_sort_2 217 = .ok (.iload 8, 2) := by decide +kernel
theorem dJ2_sort_2_219 : decode cJ2_sort_2 219 = .ok (.iaload, 1) := by decide +kernel
theorem dJ2_sort_2_220 : decode cJ2_sort_2 220 = .ok (.iastore, 1) := by decide +kernel
theorem dJ2_sort_2_221 : decode cJ2_sort_2 221 = .ok (.aload_n 1, 1) := by decide +kernel
theorem dJ2_sort_2_222 : decode cJ2_sort_2 222 = .ok (.iload 8, 2) := by decide +kernel
theorem dJ2_sort_2_224 : decode cJ2_sort_2 224 = .ok (.iload 14, 2) := by decide +kernel
theorem dJ2_sort_2_226 : decode cJ2_sort_2 226 = .ok (.iastore, 1) := by decide +kernel
theorem dJ2_sort_2_227 : decode cJ2_sort_2 227 = .ok (.aload_n 1, 1) := by decide +kernel
theorem dJ2_sort_2_228 : decode cJ2_sort_2 228 = .ok (.iload 9, 2) := by decide +kernel
theorem dJ2_sort_2_230 : decode cJ2_sort_2 230 = .ok (.iaload, 1) := by decide +kernel
theorem dJ2_sort_2_231 : decode cJ2_sort_2 231 = .ok (.aload_n 1, 1) := by decide +kernel
theorem dJ2_sort_2_232 : decode cJ2_sort_2 232 = .ok (.iload 12, 2) := by decide +kernel
theorem dJ2_sort_2_234 : decode cJ2_sort_2 234 = .ok (.iaload, 1) := by decide +kernel
theorem dJ2_sort_2_235 : decode cJ2_sort_2 235 = .ok (.if_icmp .ge 23, 3) := by decide +kernel
theorem dJ2_sort_2_238 : decode cJ2_sort_2 238 = .ok (.aload_n 1, 1) := by decide +kernel
theorem dJ2_sort_2_239 : decode cJ2_sort_2 239 = .ok (.iload 9, 2) := by decide +kernel
theorem dJ2_sort_2_241 : decode cJ2_sort_2 241 = .ok (.iaload, 1) := by decide +kernel
theorem dJ2_sort_2_242 : decode cJ2_sort_2 242 = .ok (.istore 14, 2) := by decide +kernel
theorem dJ2_sort_2_244 : decode cJ2_sort_2 244 = .ok (.aload_n 1, 1) := by decide +kernel
theorem dJ2_sort_2_245 : decode cJ2_sort_2 245 = .ok (.iload 9, 2) := by decide +kernel
theorem dJ2_sort_2_247 : decode cJ2_sort_2 247 = .ok (.aload_n 1, 1) := by decide +kernel
theorem dJ2_sort_2_248 : decode cJ2_sort_2 248 = .ok (.iload 12, 2) := by decide +kernel
theorem dJ2_sort_2_250 : decode cJ2_sort_2 250 = .ok (.iaload, 1) := by decide +kernel
theorem dJ2_sort_2_251 : decode cJ2_sort_2 251 = .ok (.iastore, 1) := by decide +kernel
theorem dJ2_sort_2_252 : decode cJ2_sort_2 252 = .ok (.aload_n 1, 1) := by decide +kernel
theorem dJ2_sort_2_253 : decode cJ2_sort_2 253 = .ok (.iload 12, 2) := by decide +kernel
theorem dJ2_sort_2_255 : decode cJ2_sort_2 255 = .ok (.iload 14, 2) := by decide +kernel
theorem dJ2_sort_2_257 : decode cJ2_sort_2 257 = .ok (.iastore, 1) := by decide +kernel
theorem dJ2_sort_2_258 : decode cJ2_sort_2 258 = .ok (.aload_n 1, 1) := by decide +kernel
theorem dJ2_sort_2_259 : decode cJ2_sort_2 259 = .ok (.iload 11, 2) := by decide +kernel
theorem dJ2_sort_2_261 : decode cJ2_sort_2 261 = .ok (.iaload, 1) := by decide +kernel
theorem dJ2_sort_2_262 : decode cJ2_sort_2 262 = .ok (.aload_n 1, 1) := by decide +kernel
theorem dJ2_sort_2_263 : decode cJ2_sort_2 263 = .ok (.iload 8, 2) := by decide +kernel
theorem dJ2_sort_2_265 : decode cJ2_sort_2 265 = .ok (.iaload, 1) := by decide +kernel
theorem dJ2_sort_2_266 : decode cJ2_sort_2 266 = .ok (.if_icmp .ge 23, 3) := by decide +kernel
theorem dJ2_sort_2_269 : decode cJ2_sort_2 269 = .ok (.aload_n 1, 1) := by decide +kernel
theorem dJ2_sort_2_270 : decode cJ2_sort_2 270 = .ok (.iload 11, 2) := by decide +kernel
theorem dJ2_sort_2_272 : decode cJ2_sort_2 272 = .ok (.iaload, 1) := by decide +kernel
theorem dJ2_sort_2_273 : decode cJ2_sort_2 273 = .ok (.istore 14, 2) := by decide +kernel
theorem dJ2_sort_2_275 : decode cJ2_sort_2 275 = .ok (.aload_n 1, 1) := by decide +kernel
theorem dJ2_sort_2_276 : decode cJ2_sort_2 276 = .ok (.iload 11, 2) := by decide +kernel
theorem dJ2_sort_2_278 : decode cJ2_sort_2 278 = .ok (.aload_n 1, 1) := by decide +kernel
theorem dJ2_sort_2_279 : decode cJ2_sort_2 279 = .ok (.iload 8, 2) := by decide +kernel
theorem dJ2_sort_2_281 : decode cJ2_sort_2 281 = .ok (.iaload, 1) := by decide +kernel
theorem dJ2_sort_2_282 : decode cJ2_sort_2 282 = .ok (.iastore, 1) := by decide +kernel
theorem dJ2_sort_2_283 : decode cJ2_sort_2 283 = .ok (.aload_n 1, 1) := by decide +kernel
theorem dJ2_sort_2_284 : decode cJ2_sort_2 284 = .ok (.iload 8, 2) := by decide +kernel
theorem dJ2_sort_2_286 : decode cJ2_sort_2 286 = .ok (.iload 14, 2) := by decide +kernel
theorem dJ2_sort_2_288 : decode cJ2_sort_2 288 = .ok (.iastore, 1) := by decide +kernel
theorem dJ2_sort_2_289 : decode cJ2_sort_2 289 = .ok (.aload_n 1, 1) := by decide +kernel
theorem dJ2_sort_2_290 : decode cJ2_sort_2 290 = .ok (.iload 12, 2) := by decide +kernel
theorem dJ2_sort_2_292 : decode cJ2_sort_2 292 = .ok (.iaload, 1) := by decide +kernel
theorem dJ2_sort_2_293 : decode cJ2_sort_2 293 = .ok (.aload_n 1, 1) := by decide +kernel
theorem dJ2_sort_2_294 : decode cJ2_sort_2 294 = .ok (.iload 11, 2) := by decide +kernel
theorem dJ2_sort_2_296 : decode cJ2_sort_2 296 = .ok (.iaload, 1) := by decide +kernel
theorem dJ2_sort_2_297 : decode cJ2_sort_2 297 = .ok (.if_icmp .ge 23, 3) := by decide +kernel
theorem dJ2_sort_2_300 : decode cJ2_sort_2 300 = .ok (.aload_n 1, 1) := by decide +kernel
theorem dJ2_sort_2_301 : decode cJ2_sort_2 301 = .ok (.iload 12, 2) := by decide +kernel
theorem dJ2_sort_2_303 : decode cJ2_sort_2 303 = .ok (.iaload, 1) := by decide +kernel
theorem dJ2_sort_2_304 : decode cJ2_sort_2 304 = .ok (.istore 14, 2) := by decide +kernel
theorem dJ2_sort_2_306 : decode cJ2_sort_2 306 = .ok (.aload_n 1, 1) := by decide +kernel
theorem dJ2_sort_2_307 : decode cJ2_sort_2 307 = .ok (.iload 12, 2) := by decide +kernel
theorem dJ2_sort_2_309 : decode cJ2_sort_2 309 = .ok (.aload_n 1, 1) := by decide +kernel
theorem dJ2_sort_2_310 : decode cJ2_sort_2 310 = .ok (.iload 11, 2) := by decide +kernel
theorem dJ2_sort_2_312 : decode cJ2_sort_2 312 = .ok (.iaload, 1) := by decide +kernel
theorem dJ2_sort_2_313 : decode cJ2_sort_2 313 = .ok (.iastore, 1) := by decide +kernel
theorem dJ2_sort_2_314 : decode cJ2_sort_2 314 = .ok (.aload_n 1, 1) := by decide +kernel
theorem dJ2_sort_2_315 : decode cJ2_sort_2 315 = .ok (.iload 11, 2) := by decide +kernel
theorem dJ2_sort_2_317 : decode cJ2_sort_2 317 = .ok (.iload 14, 2) := by decide +kernel
theorem dJ2_sort_2_319 : decode cJ2_sort_2 319 = .ok (.iastore, 1) := by decide +kernel
theorem dJ2_sort_2_320 : decode cJ2_sort_2 320 = .ok (.iload 13, 2) := by decide +kernel
theorem dJ2_sort_2_322 : decode cJ2_sort_2 322 = .ok (.aload_n 1, 1) := by decide +kernel
theorem dJ2_sort_2_323 : decode cJ2_sort_2 323 = .ok (.iload 11, 2) := by decide +kernel
theorem dJ2_sort_2_325 : decode cJ2_sort_2 325 = .ok (.iaload, 1) := by decide +kernel
theorem dJ2_sort_2_326 : decode cJ2_sort_2 326 = .ok (.if_icmp .ge 54, 3) := by decide +kernel
theorem dJ2_sort_2_329 : decode cJ2_sort_2 329 = .ok (.iload 13, 2) := by decide +kernel
theorem dJ2_sort_2_331 : decode cJ2_sort_2 331 = .ok (.aload_n 1, 1) := by decide +kernel
theorem dJ2_sort_2_332 : decode cJ2_sort_2 332 = .ok (.iload 8, 2) := by decide +kernel
theorem dJ2_sort_2_334 : decode cJ2_sort_2 334 = .ok (.iaload, 1) := by decide +kernel
theorem dJ2_sort_2_335 : decode cJ2_sort_2 335 = .ok (.if_icmp .ge 28, 3) := by decide +kernel
theorem dJ2_sort_2_338 : decode cJ2_sort_2 338 = .ok (.aload_n 1, 1) := by decide +kernel
theorem dJ2_sort_2_339 : decode cJ2_sort_2 339 = .ok (.iload 10, 2) := by decide +kernel
theorem dJ2_sort_2_341 : decode cJ2_sort_2 341 = .ok (.aload_n 1, 1) := by decide +kernel
theorem dJ2_sort_2_342 : decode cJ2_sort_2 342 = .ok (.iload 11, 2) := by decide +kernel
theorem dJ2_sort_2_344 : decode cJ2_sort_2 344 = .ok (.iaload, 1) := by decide +kernel
theorem dJ2_sort_2_345 : decode cJ2_sort_2 345 = .ok (.iastore, 1) := by decide +kernel
theorem dJ2_sort_2_346 : decode cJ2_sort_2 346 = .ok (.aload_n 1, 1) := by decide +kernel
theorem dJ2_sort_2_347 : decode cJ2_sort_2 347 = .ok (.iload 11, 2) := by decide +kernel
theorem dJ2_sort_2_349 : decode cJ2_sort_2 349 = .ok (.aload_n 1, 1) := by decide +kernel
theorem dJ2_sort_2_350 : decode cJ2_sort_2 350 = .ok (.iload 8, 2) := by decide +kernel
theorem dJ2_sort_2_352 : decode cJ2_sort_2 352 = .ok (.iaload, 1) := by decide +kernel
theorem dJ2_sort_2_353 : decode cJ2_sort_2 353 = .ok (.iastore, 1) := by decide +kernel
theorem dJ2_sort_2_354 : decode cJ2_sort_2 354 = .ok (.aload_n 1, 1) := by decide +kernel
theorem dJ2_sort_2_355 : decode cJ2_sort_2 355 = .ok (.iload 8, 2) := by decide +kernel
theorem dJ2_sort_2_357 : decode cJ2_sort_2 357 = .ok (.iload 13, 2) := by decide +kernel
theorem dJ2_sort_2_359 : decode cJ2_sort_2 359 = .ok (.iastore, 1) := by decide +kernel
theorem dJ2_sort_2_360 : decode cJ2_sort_2 360 = .ok (.goto 77, 3) := by decide +kernel
theorem dJ2_sort_2_363 : decode cJ2_sort_2 363 = .ok (.aload_n 1, 1) := by decide +kernel
theorem dJ2_sort_2_364 : decode cJ2_sort_2 364 = .ok (.iload 10, 2) := by decide +kernel
theorem dJ2_sort_2_366 : decode cJ2_sort_2 366 = .ok (.aload_n 1, 1) := by decide +kernel
theorem dJ2_sort_2_367 : decode cJ2_sort_2 367 = .ok (.iload 11, 2) := by decide +kernel
theorem dJ2_sort_2_369 : decode cJ2_sort_2 369 = .ok (.iaload, 1) := by decide +kernel
theorem dJ2_sort_2_370 : decode cJ2_sort_2 370 = .ok (.iastore, 1) := by decide +kernel
theorem dJ2_sort_2_371 : decode cJ2_sort_2 371 = .ok (.aload_n 1, 1) := by decide +kernel
theorem dJ2_sort_2_372 : decode cJ2_sort_2 372 = .ok (.iload 11, 2) := by decide +kernel
theorem dJ2_sort_2_374 : decode cJ2_sort_2 374 = .ok (.iload 13, 2) := by decide +kernel
theorem dJ2_sort_2_376 : decode cJ2_sort_2 376 = .ok (.iastore, 1) := by decide +kernel
theorem dJ2_sort_2_377 : decode cJ2_sort_2 377 = .ok (.goto 60, 3) := by decide +kernel
theorem dJ2_sort_2_380 : decode cJ2_sort_2 380 = .ok (.iload 13, 2) := by decide +kernel
theorem dJ2_sort_2_382 : decode cJ2_sort_2 382 = .ok (.aload_n 1, 1) := by decide +kernel
theorem dJ2_sort_2_383 : decode cJ2_sort_2 383 = .ok (.iload 12, 2) := by decide +kernel
theorem dJ2_sort_2_385 : decode cJ2_sort_2 385 = .ok (.iaload, 1) := by decide +kernel
theorem dJ2_sort_2_386 : decode cJ2_sort_2 386 = .ok (.if_icmp .le 51, 3) := by decide +kernel
theorem dJ2_sort_2_389 : decode cJ2_sort_2 389 = .ok (.iload 13, 2) := by decide +kernel
theorem dJ2_sort_2_391 : decode cJ2_sort_2 391 = .ok (.aload_n 1, 1) := by decide +kernel
theorem dJ2_sort_2_392 : decode cJ2_sort_2 392 = .ok (.iload 9, 2) := by decide +kernel
theorem dJ2_sort_2_394 : decode cJ2_sort_2 394 = .ok (.iaload, 1) := by decide +kernel
theorem dJ2_sort_2_395 : decode cJ2_sort_2 395 = .ok (.if_icmp .le 28, 3) := by decide +kernel
theorem dJ2_sort_2_398 : decode cJ2_sort_2 398 = .ok (.aload_n 1, 1) := by decide +kernel
theorem dJ2_sort_2_399 : decode cJ2_sort_2 399 = .ok (.iload 10, 2) := by decide +kernel
theorem dJ2_sort_2_401 : decode cJ2_sort_2 401 = .ok (.aload_n 1, 1) := by decide +kernel
theorem dJ2_sort_2_402 : decode cJ2_sort_2 402 = .ok (.iload 12, 2) := by decide +kernel
theorem dJ2_sort_2_404 : decode cJ2_sort_2 404 = .ok (.iaload, 1) := by decide +kernel
theorem dJ2_sort_2_405 : decode cJ2_sort_2 405 = .ok (.iastore, 1) := by decide +kernel
theorem dJ2_sort_2_406 : decode cJ2_sort_2 406 = .ok (.aload_n 1, 1) := by decide +kernel
theorem dJ2_sort_2_407 : decode cJ2_sort_2 407 = .ok (.iload 12, 2) := by decide +kernel
theorem dJ2_sort_2_409 : decode cJ2_sort_2 409 = .ok (.aload_n 1, 1) := by decide +kernel
theorem dJ2_sort_2_410 : decode cJ2_sort_2 410 = .ok (.iload 9, 2) := by decide +kernel
theorem dJ2_sort_2_412 : decode cJ2_sort_2 412 = .ok (.iaload, 1) := by decide +kernel
theorem dJ2_sort_2_413 : decode cJ2_sort_2 413 = .ok (.iastore, 1) := by decide +kernel
theorem dJ2_sort_2_414 : decode cJ2_sort_2 414 = .ok (.aload_n 1, 1) := by decide +kernel
theorem dJ2_sort_2_415 : decode cJ2_sort_2 415 = .ok (.iload 9, 2) := by decide +kernel
theorem dJ2_sort_2_417 : decode cJ2_sort_2 417 = .ok (.iload 13, 2) := by decide +kernel
theorem dJ2_sort_2_419 : decode cJ2_sort_2 419 = .ok (.iastore, 1) := by decide +kernel
theorem dJ2_sort_2_420 : decode cJ2_sort_2 420 = .ok (.goto 17, 3) := by decide +kernel
theorem dJ2_sort_2_423 : decode cJ2_sort_2 423 = .ok (.aload_n 1, 1) := by decide +kernel
theorem dJ2_sort_2_424 : decode cJ2_sort_2 424 = .ok (.iload 10, 2) := by decide +kernel
theorem dJ2_sort_2_426 : decode cJ2_sort_2 426 = .ok (.aload_n 1, 1) := by decide +kernel
theorem dJ2_sort_2_427 : decode cJ2_sort_2 427 = .ok (.iload 12, 2) := by decide +kernel
theorem dJ2_sort_2_429 : decode cJ2_sort_2 429 = .ok (.iaload, 1) := by decide +kernel
theorem dJ2_sort_2_430 : decode cJ2_sort_2 430 = .ok (.iastore, 1) := by decide +kernel
theorem dJ2_sort_2_431 : decode cJ2_sort_2 431 = .ok (.aload_n 1, 1) := by decide +kernel
theorem dJ2_sort_2_432 : decode cJ2_sort_2 432 = .ok (.iload 12, 2) := by decide +kernel
theorem dJ2_sort_2_434 : decode cJ2_sort_2 434 = .ok (.iload 13, 2) := by decide +kernel
theorem dJ2_sort_2_436 : decode cJ2_sort_2 436 = .ok (.iastore, 1) := by decide +kernel
theorem dJ2_sort_2_437 : decode cJ2_sort_2 437 = .ok (.iload_n 3, 1) := by decide +kernel
theorem dJ2_sort_2_438 : decode cJ2_sort_2 438 = .ok (.istore 14, 2) := by decide +kernel
theorem dJ2_sort_2_440 : decode cJ2_sort_2 440 = .ok (.iload 5, 2) := by decide +kernel
theorem dJ2_sort_2_442 : decode cJ2_sort_2 442 = .ok (.istore 15, 2) := by decide +kernel
theorem dJ2_sort_2_444 : decode cJ2_sort_2 444 = .ok (.aload_n 1, 1) := by decide +kernel
theorem dJ2_sort_2_445 : decode cJ2_sort_2 445 = .ok (.iload 8, 2) := by decide +kernel
theorem dJ2_sort_2_447 : decode cJ2_sort_2 447 = .ok (.iaload, 1) := by decide +kernel
theorem dJ2_sort_2_448 : decode cJ2_sort_2 448 = .ok (.aload_n 1, 1) := by decide +kernel
theorem dJ2_sort_2_449 : decode cJ2_sort_2 449 = .ok (.iload 11, 2) := by decide +kernel
theorem dJ2_sort_2_451 : decode cJ2_sort_2 451 = .ok (.iaload, 1) := by decide +kernel
theorem dJ2_sort_2_452 : decode cJ2_sort_2 452 = .ok (.if_icmp .ge 324, 3) := by decide +kernel
theorem dJ2_sort_2_455 : decode cJ2_sort_2 455 = .ok (.aload_n 1, 1) := by decide +kernel
theorem dJ2_sort_2_456 : decode cJ2_sort_2 456 = .ok (.iload 11, 2) := by decide +kernel
theorem dJ2_sort_2_458 : decode cJ2_sort_2 458 = .ok (.iaload, 1) := by decide +kernel
theorem dJ2_sort_2_459 : decode cJ2_sort_2 459 = .ok (.aload_n 1, 1) := by decide +kernel
theorem dJ2_sort_2_460 : decode cJ2_sort_2 460 = .ok (.iload 10, 2) := by decide +kernel
theorem dJ2_sort_2_462 : decode cJ2_sort_2 462 = .ok (.iaload, 1) := by decide +kernel
theorem dJ2_sort_2_463 : decode cJ2_sort_2 463 = .ok (.if_icmp .ge 313, 3) := by decide +kernel
theorem dJ2_sort_2_466 : decode cJ2_sort_2 466 = .ok (.aload_n 1, 1) := by decide +kernel
theorem dJ2_sort_2_467 : decode cJ2_sort_2 467 = .ok (.iload 10, 2) := by decide +kernel
theorem dJ2_sort_2_469 : decode cJ2_sort_2 469 = .ok (.iaload, 1) := by decide +kernel
theorem dJ2_sort_2_470 : decode cJ2_sort_2 470 = .ok (.aload_n 1, 1) := by decide +kernel
theorem dJ2_sort_2_471 : decode cJ2_sort_2 471 = .ok (.iload 12, 2) := by decide +kernel
theorem dJ2_sort_2_473 : decode cJ2_sort_2 473 = .ok (.iaload, 1) := by decide +kernel
theorem dJ2_sort_2_474 : decode cJ2_sort_2 474 = .ok (.if_icmp .ge 302, 3) := by decide +kernel
theorem dJ2_sort_2_477 : decode cJ2_sort_2 477 = .ok (.aload_n 1, 1) := by decide +kernel
theorem dJ2_sort_2_478 : decode cJ2_sort_2 478 = .ok (.iload 12, 2) := by decide +kernel
theorem dJ2_sort_2_480 : decode cJ2_sort_2 480 = .ok (.iaload, 1) := by decide +kernel
theorem dJ2_sort_2_481 : decode cJ2_sort_2 481 = .ok (.aload_n 1, 1) := by decide +kernel
theorem dJ2_sort_2_482 : decode cJ2_sort_2 482 = .ok (.iload 9, 2) := by decide +kernel
theorem dJ2_sort_2_484 : decode cJ2_sort_2 484 = .ok (.iaload, 1) := by decide +kernel
theorem dJ2_sort_2_485 : decode cJ2_sort_2 485 = .ok (.if_icmp .ge 291, 3) := by decide +kernel
theorem dJ2_sort_2_488 : decode cJ2_sort_2 488 = .ok (.aload_n 1, 1) := by decide +kernel
theorem dJ2_sort_2_489 : decode cJ2_sort_2 489 = .ok (.iload 8, 2) := by decide +kernel
theorem dJ2_sort_2_491 : decode cJ2_sort_2 491 = .ok (.iaload, 1) := by decide +kernel
theorem dJ2_sort_2_492 : decode cJ2_sort_2 492 = .ok (.istore 16, 2) := by decide +kernel
theorem dJ2_sort_2_494 : decode cJ2_sort_2 494 = .ok (.aload_n 1, 1) := by decide +kernel
theorem dJ2_sort_2_495 : decode cJ2_sort_2 495 = .ok (.iload 9, 2) := by decide +kernel
theorem dJ2_sort_2_497 : decode cJ2_sort_2 497 = .ok (.iaload, 1) := by decide +kernel
theorem dJ2_sort_2_498 : decode cJ2_sort_2 498 = .ok (.istore 17, 2) := by decide +kernel
theorem dJ2_sort_2_500 : decode cJ2_sort_2 500 = .ok (.aload_n 1, 1) := by decide +kernel
theorem dJ2_sort_2_501 : decode cJ2_sort_2 501 = .ok (.iload 8, 2) := by decide +kernel
theorem dJ2_sort_2_503 : decode cJ2_sort_2 503 = .ok (.aload_n 1, 1) := by decide +kernel
theorem dJ2_sort_2_504 : decode cJ2_sort_2 504 = .ok (.iload 14, 2) := by decide +kernel
theorem dJ2_sort_2_506 : decode cJ2_sort_2 506 = .ok (.iaload, 1) := by decide +kernel
theorem dJ2_sort_2_507 : decode cJ2_sort_2 507 = .ok (.iastore, 1) := by decide +kernel
theorem dJ2_sort_2_508 : decode cJ2_sort_2 508 = .ok (.aload_n 1, 1) := by decide +kernel
theorem dJ2_sort_2_509 : decode cJ2_sort_2 509 = .ok (.iload 9, 2) := by decide +kernel
theorem dJ2_sort_2_511 : decode cJ2_sort_2 511 = .ok (.aload_n 1, 1) := by decide +kernel
theorem dJ2_sort_2_512 : decode cJ2_sort_2 512 = .ok (.iload 15, 2) := by decide +kernel
theorem dJ2_sort_2_514 : decode cJ2_sort_2 514 = .ok (.iaload, 1) := by decide +kernel
theorem dJ2_sort_2_515 : decode cJ2_sort_2 515 = .ok (.iastore, 1) := by decide +kernel
theorem dJ2_sort_2_516 : decode cJ2_sort_2 516 = .ok (.aload_n 1, 1) := by decide +kernel
theorem dJ2_sort_2_517 : decode cJ2_sort_2 517 = .ok (.iinc 14 1, 3) := by decide +kernel
theorem dJ2_sort_2_520 : decode cJ2_sort_2 520 = .ok (.iload 14, 2) := by decide +kernel
theorem dJ2_sort_2_522 : decode cJ2_sort_2 522 = .ok (.iaload, 1) := by decide +kernel
theorem dJ2_sort_2_523 : decode cJ2_sort_2 523 = .ok (.iload 16, 2) := by decide +kernel
theorem dJ2_sort_2_525 : decode cJ2_sort_2 525 = .ok (.if_icmp .ge 6, 3) := by decide +kernel
theorem dJ2_sort_2_528 : decode cJ2_sort_2 528 = .ok (.goto (-12), 3) := by decide +kernel
theorem dJ2_sort_2_531 : decode cJ2_sort_2 531 = .ok (.aload_n 1, 1) := by decide +kernel
theorem dJ2_sort_2_532 : decode cJ2_sort_2 532 = .ok (.iinc 15 (-1), 3) := by decide +kernel
theorem dJ2_sort_2_535 : decode cJ2_sort_2 535 = .ok (.iload 15, 2) := by decide +kernel
theorem dJ2_sort_2_537 : decode cJ2_sort_2 537 = .ok (.iaload, 1) := by decide +kernel
theorem dJ2_sort_2_538 : decode cJ2_sort_2 538 = .ok (.iload 17, 2) := by decide +kernel
theorem dJ2_sort_2_540 : decode cJ2_sort_2 540 = .ok (.if_icmp .le 6, 3) := by decide +kernel
theorem dJ2_sort_2_543 : decode cJ2_sort_2 543 = .ok (.goto (-12), 3) := by decide +kernel
theorem dJ2_sort_2_546 : decode cJ2_sort_2 546 = .ok (.iinc 14 (-1), 3) := by decide +kernel
theorem dJ2_sort_2_549 : decode cJ2_sort_2 549 = .ok (.iload 14, 2) := by decide +kernel
theorem dJ2_sort_2_551 : decode cJ2_sort_2 551 = .ok (.istore 18, 2) := by decide +kernel
theorem dJ2_sort_2_553 : decode cJ2_sort_2 553 = .ok (.iinc 15 1, 3) := by decide +kernel
theorem dJ2_sort_2_556 : decode cJ2_sort_2 556 = .ok (.iload 15, 2) := by decide +kernel
theorem dJ2_sort_2_558 : decode cJ2_sort_2 558 = .ok (.istore 19, 2) := by decide +kernel
theorem dJ2_sort_2_560 : decode cJ2_sort_2 560 = .ok (.iinc 19 (-1), 3) := by decide +kernel
theorem dJ2_sort_2_563 : decode cJ2_sort_2 563 = .ok (.iload 19, 2) := by decide +kernel
theorem dJ2_sort_2_565 : decode cJ2_sort_2 565 = .ok (.iload 14, 2) := by decide +kernel
theorem dJ2_sort_2_567 : decode cJ2_sort_2 567 = .ok (.if_icmp .le 110, 3) := by decide +kernel
theorem dJ2_sort_2_570 : decode cJ2_sort_2 570 = .ok (.aload_n 1, 1) := by decide +kernel
theorem dJ2_sort_2_571 : decode cJ2_sort_2 571 = .ok (.iload 19, 2) := by decide +kernel
theorem dJ2_sort_2_573 : decode cJ2_sort_2 573 = .ok (.iaload, 1) := by decide +kernel
theorem dJ2_sort_2_574 : decode cJ2_sort_2 574 = .ok (.istore 20, 2) := by decide +kernel
theorem dJ2_sort_2_576 : decode cJ2_sort_2 576 = .ok (.iload 20, 2) := by decide +kernel
theorem dJ2_sort_2_578 : decode cJ2_sort_2 578 = .ok (.iload 16, 2) := by decide +kernel
theorem dJ2_sort_2_580 : decode cJ2_sort_2 580 = .ok (.if_icmp .ge 70, 3) := by decide +kernel
theorem dJ2_sort_2_583 : decode cJ2_sort_2 583 = .ok (.iload 14, 2) := by decide +kernel
theorem dJ2_sort_2_585 : decode cJ2_sort_2 585 = .ok (.iload 19, 2) := by decide +kernel
theorem dJ2_sort_2_587 : decode cJ2_sort_2 587 = .ok (.if_icmp .ge 87, 3) := by decide +kernel
theorem dJ2_sort_2_590 : decode cJ2_sort_2 590 = .ok (.aload_n 1, 1) := by decide +kernel
theorem dJ2_sort_2_591 : decode cJ2_sort_2 591 = .ok (.iinc 14 1, 3) := by decide +kernel
theorem dJ2_sort_2_594 : decode cJ2_sort_2 594 = .ok (.iload 14, 2) := by decide +kernel
theorem dJ2_sort_2_596 : decode cJ2_sort_2 596 = .ok (.iaload, 1) := by decide +kernel
theorem dJ2_sort_2_597 : decode cJ2_sort_2 597 = .ok (.iload 16, 2) := by decide +kernel
theorem dJ2_sort_2_599 : decode cJ2_sort_2 599 = .ok (.if_icmp .lt (-16), 3) := by decide +kernel
theorem dJ2_sort_2_602 : decode cJ2_sort_2 602 = .ok (.aload_n 1, 1) := by decide +kernel
theorem dJ2_sort_2_603 : decode cJ2_sort_2 603 = .ok (.iload 14, 2) := by decide +kernel
theorem dJ2_sort_2_605 : decode cJ2_sort_2 605 = .ok (.iaload, 1) := by decide +kernel
theorem dJ2_sort_2_606 : decode cJ2_sort_2 606 = .ok (.iload 17, 2) := by decide +kernel
theorem dJ2_sort_2_608 : decode cJ2_sort_2 608 = .ok (.if_icmp .le 25, 3) := by decide +kernel
theorem dJ2_sort_2_611 : decode cJ2_sort_2 611 = .ok (.aload_n 1, 1) := by decide +kernel
theorem dJ2_sort_2_612 : decode cJ2_sort_2 612 = .ok (.iload 19, 2) := by decide +kernel
theorem dJ2_sort_2_614 : decode cJ2_sort_2 614 = .ok (.aload_n 1, 1) := by decide +kernel
theorem dJ2_sort_2_615 : decode cJ2_sort_2 615 = .ok (.iinc 15 (-1), 3) := by decide +kernel
theorem dJ2_sort_2_618 : decode cJ2_sort_2 618 = .ok (.iload 15, 2) := by decide +kernel
theorem dJ2_sort_2_620 : decode cJ2_sort_2 620 = .ok (.iaload, 1) := by decide +kernel
theorem dJ2_sort_2_621 : decode cJ2_sort_2 621 = .ok (.iastore, 1) := by decide +kernel
theorem dJ2_sort_2_622 : decode cJ2_sort_2 622 = .ok (.aload_n 1, 1) := by decide +kernel
theorem dJ2_sort_2_623 : decode cJ2_sort_2 623 = .ok (.iload 15, 2) := by decide +kernel
theorem dJ2_sort_2_625 : decode cJ2_sort_2 625 = .ok (.aload_n 1, 1) := by decide +kernel
theorem dJ2_sort_2_626 : decode cJ2_sort_2 626 = .ok (.iload 14, 2) := by decide +kernel
theorem dJ2_sort_2_628 : decode cJ2_sort_2 628 = .ok (.iaload, 1) := by decide +kernel
theorem dJ2_sort_2_629 : decode cJ2_sort_2 629 = .ok (.iastore, 1) := by decide +kernel
theorem dJ2_sort_2_630 : decode cJ2_sort_2 630 = .ok (.goto 11, 3) := by decide +kernel
theorem dJ2_sort_2_633 : decode cJ2_sort_2 633 = .ok (.aload_n 1, 1) := by decide +kernel
theorem dJ2_sort_2_634 : decode cJ2_sort_2 634 = .ok (.iload 19, 2) := by decide +kernel
theorem dJ2_sort_2_636 : decode cJ2_sort_2 636 = .ok (.aload_n 1, 1) := by decide +kernel
theorem dJ2_sort_2_637 : decode cJ2_sort_2 637 = .ok (.iload 14, 2) := by decide +kernel
theorem dJ2_sort_2_639 : decode cJ2_sort_2 639 = .ok (.iaload, 1) := by decide +kernel
theorem dJ2_sort_2_640 : decode cJ2_sort_2 640 = .ok (.iastore, 1) := by decide +kernel
theorem dJ2_sort_2_641 : decode cJ2_sort_2 641 = .ok (.aload_n 1, 1) := by decide +kernel
theorem dJ2_sort_2_642 : decode cJ2_sort_2 642 = .ok (.iload 14, 2) := by decide +kernel
theorem dJ2_sort_2_644 : decode cJ2_sort_2 644 = .ok (.iload 20, 2) := by decide +kernel
theorem dJ2_sort_2_646 : decode cJ2_sort_2 646 = .ok (.iastore, 1) := by decide +kernel
theorem dJ2_sort_2_647 : decode cJ2_sort_2 647 = .ok (.goto 27, 3) := by decide +kernel
theorem dJ2_sort_2_650 : decode cJ2_sort_2 650 = .ok (.iload 20, 2) := by decide +kernel
theorem dJ2_sort_2_652 : decode cJ2_sort_2 652 = .ok (.iload 17, 2) := by decide +kernel
theorem dJ2_sort_2_654 : decode cJ2_sort_2 654 = .ok (.if_icmp .le 20, 3) := by decide +kernel
theorem dJ2_sort_2_657 : decode cJ2_sort_2 657 = .ok (.aload_n 1, 1) := by decide +kernel
theorem dJ2_sort_2_658 : decode cJ2_sort_2 658 = .ok (.iload 19, 2) := by decide +kernel
theorem dJ2_sort_2_660 : decode cJ2_sort_2 660 = .ok (.aload_n 1, 1) := by decide +kernel
theorem dJ2_sort_2_661 : decode cJ2_sort_2 661 = .ok (.iinc 15 (-1), 3) := by decide +kernel
theorem dJ2_sort_2_664 : decode cJ2_sort_2 664 = .ok (.iload 15, 2) := by decide +kernel
theorem dJ2_sort_2_666 : decode cJ2_sort_2 666 = .ok (.iaload, 1) := by decide +kernel
theorem dJ2_sort_2_667 : decode cJ2_sort_2 667 = .ok (.iastore, 1) := by decide +kernel
theorem dJ2_sort_2_668 : decode cJ2_sort_2 668 = .ok (.aload_n 1, 1) := by decide +kernel
theorem dJ2_sort_2_669 : decode cJ2_sort_2 669 = .ok (.iload 15, 2) := by decide +kernel
theorem dJ2_sort_2_671 : decode cJ2_sort_2 671 = .ok (.iload 20, 2) := by decide +kernel
theorem dJ2_sort_2_673 : decode cJ2_sort_2 673 = .ok (.iastore, 1) := by decide +kernel
theorem dJ2_sort_2_674 : decode cJ2_sort_2 674 = .ok (.goto (-114), 3) := by decide +kernel
theorem dJ2_sort_2_677 : decode cJ2_sort_2 677 = .ok (.aload_n 1, 1) := by decide +kernel
theorem dJ2_sort_2_678 : decode cJ2_sort_2 678 = .ok (.iload_n 3, 1) := by decide +kernel
theorem dJ2_sort_2_679 : decode cJ2_sort_2 679 = .ok (.aload_n 1, 1) := by decide +kernel
theorem dJ2_sort_2_680 : decode cJ2_sort_2 680 = .ok (.iload 14, 2) := by decide +kernel
theorem dJ2_sort_2_682 : decode cJ2_sort_2 682 = .ok (.iaload, 1) := by decide +kernel
theorem dJ2_sort_2_683 : decode cJ2_sort_2 683 = .ok (.iastore, 1) := by decide +kernel
theorem dJ2_sort_2_684 : decode cJ2_sort_2 684 = .ok (.aload_n 1, 1) := by decide +kernel
theorem dJ2_sort_2_685 : decode cJ2_sort_2 685 = .ok (.iload 14, 2) := by decide +kernel
theorem dJ2_sort_2_687 : decode cJ2_sort_2 687 = .ok (.iload 16, 2) := by decide +kernel
theorem dJ2_sort_2_689 : decode cJ2_sort_2 689 = .ok (.iastore, 1) := by decide +kernel
theorem dJ2_sort_2_690 : decode cJ2_sort_2 690 = .ok (.aload_n 1, 1) := by decide +kernel
theorem dJ2_sort_2_691 : decode cJ2_sort_2 691 = .ok (.iload 5, 2) := by decide +kernel
theorem dJ2_sort_2_693 : decode cJ2_sort_2 693 = .ok (.aload_n 1, 1) := by decide +kernel
theorem dJ2_sort_2_694 : decode cJ2_sort_2 694 = .ok (.iload 15, 2) := by decide +kernel
theorem dJ2_sort_2_696 : decode cJ2_sort_2 696 = .ok (.iaload, 1) := by decide +kernel
theorem dJ2_sort_2_697 : decode cJ2_sort_2 697 = .ok (.iastore, 1) := by decide +kernel
theorem dJ2_sort_2_698 : decode cJ2_sort_2 698 = .ok (.aload_n 1, 1) := by decide +kernel
theorem dJ2_sort_2_699 : decode cJ2_sort_2 699 = .ok (.iload 15, 2) := by decide +kernel
theorem dJ2_sort_2_701 : decode cJ2_sort_2 701 = .ok (.iload 17, 2) := by decide +kernel
theorem dJ2_sort_2_703 : decode cJ2_sort_2 703 = .ok (.iastore, 1) := by decide +kernel
theorem dJ2_sort_2_704 : decode cJ2_sort_2 704 = .ok (.iload 6, 2) := by decide +kernel
theorem dJ2_sort_2_706 : decode cJ2_sort_2 706 = .ok (.sipush 4096, 3) := by decide +kernel
theorem dJ2_sort_2_709 : decode cJ2_sort_2 709 = .ok (.if_icmp .le 36, 3) := by decide +kernel
theorem dJ2_sort_2_712 : decode cJ2_sort_2 712 = .ok (.aload_n 0, 1) := by decide +kernel
theorem dJ2_sort_2_713 : decode cJ2_sort_2 713 = .ok (.ifnull 32, 3) := by decide +kernel
theorem dJ2_sort_2_716 : decode cJ2_sort_2 716 = .ok (.aload_n 0, 1) := by decide +kernel
theorem dJ2_sort_2_717 : decode cJ2_sort_2 717 = .ok (.iload_n 2, 1) := by decide +kernel
theorem dJ2_sort_2_718 : decode cJ2_sort_2 718 = .ok (.iconst 1, 1) := by decide +kernel
theorem dJ2_sort_2_719 : decode cJ2_sort_2 719 = .ok (.ior, 1) := by decide +kernel
theorem dJ2_sort_2_720 : decode cJ2_sort_2 720 = .ok (.iload 14, 2) := by decide +kernel
theorem dJ2_sort_2_722 : decode cJ2_sort_2 722 = .ok (.iconst 1, 1) := by decide +kernel
theorem dJ2_sort_2_723 : decode cJ2_sort_2 723 = .ok (.iadd, 1) := by decide +kernel
theorem dJ2_sort_2_724 : decode cJ2_sort_2 724 = .ok (.iload 15, 2) := by decide +kernel
theorem dJ2_sort_2_726 : decode cJ2_sort_2 726 = .ok (.invokevirtual 45, 3) := by decide +kernel
theorem dJ2_sort_2_729 : decode cJ2_sort_2 729 = .ok (.aload_n 0, 1) := by decide +kernel
theorem dJ2_sort_2_730 : decode cJ2_sort_2 730 = .ok (.iload_n 2, 1) := by decide +kernel
theorem dJ2_sort_2_731 : decode cJ2_sort_2 731 = .ok (.iconst 1, 1) := by decide +kernel
theorem dJ2_sort_2_732 : decode cJ2_sort_2 732 = .ok (.ior, 1) := by decide +kernel
theorem dJ2_sort_2_733 : decode cJ2_sort_2 733 = .ok (.iload 15, 2) := by decide +kernel
theorem dJ2_sort_2_735 : decode cJ2_sort_2 735 = .ok (.iconst 1, 1) := by decide +kernel
theorem dJ2_sort_2_736 : decode cJ2_sort_2 736 = .ok (.iadd, 1) := by decide +kernel
theorem dJ2_sort_2_737 : decode cJ2_sort_2 737 = .ok (.iload 4, 2) := by decide +kernel
theorem dJ2_sort_2_739 : decode cJ2_sort_2 739 = .ok (.invokevirtual 45, 3) := by decide +kernel
theorem dJ2_sort_2_742 : decode cJ2_sort_2 742 = .ok (.goto 31, 3) := by decide +kernel
theorem dJ2_sort_2_745 : decode cJ2_sort_2 745 = .ok (.aload_n 0, 1) := by decide +kernel
theorem dJ2_sort_2_746 : decode cJ2_sort_2 746 = .ok (.aload_n 1, 1) := by decide +kernel
theorem dJ2_sort_2_747 : decode cJ2_sort_2 747 = .ok (.iload_n 2, 1) := by decide +kernel
theorem dJ2_sort_2_748 : decode cJ2_sort_2 748 = .ok (.iconst 1, 1) := by decide +kernel
theorem dJ2_sort_2_749 : decode cJ2_sort_2 749 = .ok (.ior, 1) := by decide +kernel
theorem dJ2_sort_2_750 : decode cJ2_sort_2 750 = .ok (.iload 14, 2) := by decide +kernel
theorem dJ2_sort_2_752 : decode cJ2_sort_2 752 = .ok (.iconst 1, 1) := by decide +kernel
theorem dJ2_sort_2_753 : decode cJ2_sort_2 753 = .ok (.iadd, 1) := by decide +kernel
theorem dJ2_sort_2_754 : decode cJ2_sort_2 754 = .ok (.iload 15, 2) := by decide +kernel
theorem dJ2_sort_2_756 : decode cJ2_sort_2 756 = .ok (.invokestatic 26, 3) := by decide +kernel
theorem dJ2_sort_2_759 : decode cJ2_sort_2 759 = .ok (.aload_n 0, 1) := by decide +kernel
theorem dJ2_sort_2_760 : decode cJ2_sort_2 760 = .ok (.aload_n 1, 1) := by decide +kernel
theorem dJ2_sort_2_761 : decode cJ2_sort_2 761 = .ok (.iload_n 2, 1) := by decide +kernel
theorem dJ2_sort_2_762 : decode cJ2_sort_2 762 = .ok (.iconst 1, 1) := by decide +kernel
theorem dJ2_sort_2_763 : decode cJ2_sort_2 763 = .ok (.ior, 1) := by decide +kernel
theorem dJ2_sort_2_764 : decode cJ2_sort_2 764 = .ok (.iload 15, 2) := by decide +kernel
theorem dJ2_sort_2_766 : decode cJ2_sort_2 766 = .ok (.iconst 1, 1) := by decide +kernel
theorem dJ2_sort_2_767 : decode cJ2_sort_2 767 = .ok (.iadd, 1) := by decide +kernel
theorem dJ2_sort_2_768 : decode cJ2_sort_2 768 = .ok (.iload 4, 2) := by decide +kernel
theorem dJ2_sort_2_770 : decode cJ2_sort_2 770 = .ok (.invokestatic 26, 3) := by decide +kernel
theorem dJ2_sort_2_773 : decode cJ2_sort_2 773 = .ok (.goto 167, 3) := by decide +kernel
theorem dJ2_sort_2_776 : decode cJ2_sort_2 776 = .ok (.aload_n 1, 1) := by decide +kernel
theorem dJ2_sort_2_777 : decode cJ2_sort_2 777 = .ok (.iload 10, 2) := by decide +kernel
theorem dJ2_sort_2_779 : decode cJ2_sort_2 779 = .ok (.iaload, 1) := by decide +kernel
theorem dJ2_sort_2_780 : decode cJ2_sort_2 780 = .ok (.istore 16, 2) := by decide +kernel
theorem dJ2_sort_2_782 : decode cJ2_sort_2 782 = .ok (.aload_n 1, 1) := by decide +kernel
theorem dJ2_sort_2_783 : decode cJ2_sort_2 783 = .ok (.iload 10, 2) := by decide +kernel
theorem dJ2_sort_2_785 : decode cJ2_sort_2 785 = .ok (.aload_n 1, 1) := by decide +kernel
theorem dJ2_sort_2_786 : decode cJ2_sort_2 786 = .ok (.iload 14, 2) := by decide +kernel
theorem dJ2_sort_2_788 : decode cJ2_sort_2 788 = .ok (.iaload, 1) := by decide +kernel
theorem dJ2_sort_2_789 : decode cJ2_sort_2 789 = .ok (.iastore, 1) := by decide +kernel
theorem dJ2_sort_2_790 : decode cJ2_sort_2 790 = .ok (.iinc 15 1, 3) := by decide +kernel
theorem dJ2_sort_2_793 : decode cJ2_sort_2 793 = .ok (.iload 15, 2) := by decide +kernel
theorem dJ2_sort_2_795 : decode cJ2_sort_2 795 = .ok (.istore 17, 2) := by decide +kernel
theorem dJ2_sort_2_797 : decode cJ2_sort_2 797 = .ok (.iinc 17 (-1), 3) := by decide +kernel
theorem dJ2_sort_2_800 : decode cJ2_sort_2 800 = .ok (.iload 17, 2) := by decide +kernel
theorem dJ2_sort_2_802 : decode cJ2_sort_2 802 = .ok (.iload 14, 2) := by decide +kernel
theorem dJ2_sort_2_804 : decode cJ2_sort_2 804 = .ok (.if_icmp .le 85, 3) := by decide +kernel
theorem dJ2_sort_2_807 : decode cJ2_sort_2 807 = .ok (.aload_n 1, 1) := by decide +kernel
theorem dJ2_sort_2_808 : decode cJ2_sort_2 808 = .ok (.iload 17, 2) := by decide +kernel
theorem dJ2_sort_2_810 : decode cJ2_sort_2 810 = .ok (.iaload, 1) := by decide +kernel
theorem dJ2_sort_2_811 : decode cJ2_sort_2 811 = .ok (.istore 18, 2) := by decide +kernel
theorem dJ2_sort_2_813 : decode cJ2_sort_2 813 = .ok (.iload 18, 2) := by decide +kernel
theorem dJ2_sort_2_815 : decode cJ2_sort_2 815 = .ok (.iload 16, 2) := by decide +kernel
theorem dJ2_sort_2_817 : decode cJ2_sort_2 817 = .ok (.if_icmp .eq 69, 3) := by decide +kernel
theorem dJ2_sort_2_820 : decode cJ2_sort_2 820 = .ok (.aload_n 1, 1) := by decide +kernel
theorem dJ2_sort_2_821 : decode cJ2_sort_2 821 = .ok (.iload 17, 2) := by decide +kernel
theorem dJ2_sort_2_823 : decode cJ2_sort_2 823 = .ok (.iload 16, 2) := by decide +kernel
theorem dJ2_sort_2_825 : decode cJ2_sort_2 825 = .ok (.iastore, 1) := by decide +kernel
theorem dJ2_sort_2_826 : decode cJ2_sort_2 826 = .ok (.iload 18, 2) := by decide +kernel
theorem dJ2_sort_2_828 : decode cJ2_sort_2 828 = .ok (.iload 16, 2) := by decide +kernel
theorem dJ2_sort_2_830 : decode cJ2_sort_2 830 = .ok (.if_icmp .ge 47, 3) := by decide +kernel
theorem dJ2_sort_2_833 : decode cJ2_sort_2 833 = .ok (.aload_n 1, 1) := by decide +kernel
theorem dJ2_sort_2_834 : decode cJ2_sort_2 834 = .ok (.iinc 14 1, 3) := by decide +kernel
theorem dJ2_sort_2_837 : decode cJ2_sort_2 837 = .ok (.iload 14, 2) := by decide +kernel
theorem dJ2_sort_2_839 : decode cJ2_sort_2 839 = .ok (.iaload, 1) := by decide +kernel
theorem dJ2_sort_2_840 : decode cJ2_sort_2 840 = .ok (.iload 16, 2) := by decide +kernel
theorem dJ2_sort_2_842 : decode cJ2_sort_2 842 = .ok (.if_icmp .ge 6, 3) := by decide +kernel
theorem dJ2_sort_2_845 : decode cJ2_sort_2 845 = .ok (.goto (-12), 3) := by decide +kernel
theorem dJ2_sort_2_848 : decode cJ2_sort_2 848 = .ok (.aload_n 1, 1) := by decide +kernel
theorem dJ2_sort_2_849 : decode cJ2_sort_2 849 = .ok (.iload 14, 2) := by decide +kernel
theorem dJ2_sort_2_851 : decode cJ2_sort_2 851 = .ok (.iaload, 1) := by decide +kernel
theorem dJ2_sort_2_852 : decode cJ2_sort_2 852 = .ok (.iload 16, 2) := by decide +kernel
theorem dJ2_sort_2_854 : decode cJ2_sort_2 854 = .ok (.if_icmp .le 14, 3) := by decide +kernel
theorem dJ2_sort_2_857 : decode cJ2_sort_2 857 = .ok (.aload_n 1, 1) := by decide +kernel
theorem dJ2_sort_2_858 : decode cJ2_sort_2 858 = .ok (.iinc 15 (-1), 3) := by decide +kernel
theorem dJ2_sort_2_861 : decode cJ2_sort_2 861 = .ok (.iload 15, 2) := by decide +kernel
theorem dJ2_sort_2_863 : decode cJ2_sort_2 863 = .ok (.aload_n 1, 1) := by decide +kernel
theorem dJ2_sort_2_864 : decode cJ2_sort_2 864 = .ok (.iload 14, 2) := by decide +kernel
theorem dJ2_sort_2_866 : decode cJ2_sort_2 866 = .ok (.iaload, 1) := by decide +kernel
theorem dJ2_sort_2_867 : decode cJ2_sort_2 867 = .ok (.iastore, 1) := by decide +kernel
theorem dJ2_sort_2_868 : decode cJ2_sort_2 868 = .ok (.aload_n 1, 1) := by decide +kernel
theorem dJ2_sort_2_869 : decode cJ2_sort_2 869 = .ok (.iload 14, 2) := by decide +kernel
theorem dJ2_sort_2_871 : decode cJ2_sort_2 871 = .ok (.iload 18, 2) := by decide +kernel
theorem dJ2_sort_2_873 : decode cJ2_sort_2 873 = .ok (.iastore, 1) := by decide +kernel
theorem dJ2_sort_2_874 : decode cJ2_sort_2 874 = .ok (.goto 12, 3) := by decide +kernel
theorem dJ2_sort_2_877 : decode cJ2_sort_2 877 = .ok (.aload_n 1, 1) := by decide +kernel
theorem dJ2_sort_2_878 : decode cJ2_sort_2 878 = .ok (.iinc 15 (-1), 3) := by decide +kernel
theorem dJ2_sort_2_881 : decode cJ2_sort_2 881 = .ok (.iload 15, 2) := by decide +kernel
theorem dJ2_sort_2_883 : decode cJ2_sort_2 883 = .ok (.iload 18, 2) := by decide +kernel
theorem dJ2_sort_2_885 : decode cJ2_sort_2 885 = .ok (.iastore, 1) := by decide +kernel
theorem dJ2_sort_2_886 : decode cJ2_sort_2 886 = .ok (.goto (-89), 3) := by decide +kernel
theorem dJ2_sort_2_889 : decode cJ2_sort_2 889 = .ok (.aload_n 1, 1) := by decide +kernel
theorem dJ2_sort_2_890 : decode cJ2_sort_2 890 = .ok (.iload_n 3, 1) := by decide +kernel
theorem dJ2_sort_2_891 : decode cJ2_sort_2 891 = .ok (.aload_n 1, 1) := by decide +kernel
theorem dJ2_sort_2_892 : decode cJ2_sort_2 892 = .ok (.iload 14, 2) := by decide +kernel
theorem dJ2_sort_2_894 : decode cJ2_sort_2 894 = .ok (.iaload, 1) := by decide +kernel
theorem dJ2_sort_2_895 : decode cJ2_sort_2 895 = .ok (.iastore, 1) := by decide +kernel
theorem dJ2_sort_2_896 : decode cJ2_sort_2 896 = .ok (.aload_n 1, 1) := by decide +kernel
theorem dJ2_sort_2_897 : decode cJ2_sort_2 897 = .ok (.iload 14, 2) := by decide +kernel
theorem dJ2_sort_2_899 : decode cJ2_sort_2 899 = .ok (.iload 16, 2) := by decide +kernel
theorem dJ2_sort_2_901 : decode cJ2_sort_2 901 = .ok (.iastore, 1) := by decide +kernel
theorem dJ2_sort_2_902 : decode cJ2_sort_2 902 = .ok (.iload 6, 2) := by decide +kernel
theorem dJ2_sort_2_904 : decode cJ2_sort_2 904 = .ok (.sipush 4096, 3) := by decide +kernel
theorem dJ2_sort_2_907 : decode cJ2_sort_2 907 = .ok (.if_icmp .le 21, 3) := by decide +kernel
theorem dJ2_sort_2_910 : decode cJ2_sort_2 910 = .ok (.aload_n 0, 1) := by decide +kernel
theorem dJ2_sort_2_911 : decode cJ2_sort_2 911 = .ok (.ifnull 17, 3) := by decide +kernel
theorem dJ2_sort_2_914 : decode cJ2_sort_2 914 = .ok (.aload_n 0, 1) := by decide +kernel
theorem dJ2_sort_2_915 : decode cJ2_sort_2 915 = .ok (.iload_n 2, 1) := by decide +kernel
theorem dJ2_sort_2_916 : decode cJ2_sort_2 916 = .ok (.iconst 1, 1) := by decide +kernel
theorem dJ2_sort_2_917 : decode cJ2_sort_2 917 = .ok (.ior, 1) := by decide +kernel
theorem dJ2_sort_2_918 : decode cJ2_sort_2 918 = .ok (.iload 15, 2) := by decide +kernel
theorem dJ2_sort_2_920 : decode cJ2_sort_2 920 = .ok (.iload 4, 2) := by decide +kernel
theorem dJ2_sort_2_922 : decode cJ2_sort_2 922 = .ok (.invokevirtual 45, 3) := by decide +kernel
theorem dJ2_sort_2_925 : decode cJ2_sort_2 925 = .ok (.goto 15, 3) := by decide +kernel
theorem dJ2_sort_2_928 : decode cJ2_sort_2 928 = .ok (.aload_n 0, 1) := by decide +kernel
theorem dJ2_sort_2_929 : decode cJ2_sort_2 929 = .ok (.aload_n 1, 1) := by decide +kernel
theorem dJ2_sort_2_930 : decode cJ2_sort_2 930 = .ok (.iload_n 2, 1) := by decide +kernel
theorem dJ2_sort_2_931 : decode cJ2_sort_2 931 = .ok (.iconst 1, 1) := by decide +kernel
theorem dJ2_sort_2_932 : decode cJ2_sort_2 932 = .ok (.ior, 1) := by decide +kernel
theorem dJ2_sort_2_933 : decode cJ2_sort_2 933 = .ok (.iload 15, 2) := by decide +kernel
theorem dJ2_sort_2_935 : decode cJ2_sort_2 935 = .ok (.iload 4, 2) := by decide +kernel
theorem dJ2_sort_2_937 : decode cJ2_sort_2 937 = .ok (.invokestatic 26, 3) := by decide +kernel
theorem dJ2_sort_2_940 : decode cJ2_sort_2 940 = .ok (.iload 14, 2) := by decide +kernel
theorem dJ2_sort_2_942 : decode cJ2_sort_2 942 = .ok (.istore 4, 2) := by decide +kernel
theorem dJ2_sort_2_944 : decode cJ2_sort_2 944 = .ok (.goto (-944), 3) := by decide +kernel
theorem dJ2_insertionSort_0 : decode cJ2_insertionSort 0 = .ok (.iload_n 1, 1) := by decide +kernel
theorem dJ2_insertionSort_1 : decode cJ2_insertionSort 1 = .ok (.istore 4, 2) := by decide +kernel
theorem dJ2_insertionSort_3 : decode cJ2_insertionSort 3 = .ok (.iinc 4 1, 3) := by decide +kernel
theorem dJ2_insertionSort_6 : decode cJ2_insertionSort 6 = .ok (.iload 4, 2) := by decide +kernel
theorem dJ2_insertionSort_8 : decode cJ2_insertionSort 8 = .ok (.iload_n 2, 1) := by decide +kernel
theorem dJ2_insertionSort_9 : decode cJ2_insertionSort 9 = .ok (.if_icmp .ge 58, 3) := by decide +kernel
theorem dJ2_insertionSort_12 : decode cJ2_insertionSort 12 = .ok (.aload_n 0, 1) := by decide +kernel
theorem dJ2_insertionSort_13 : decode cJ2_insertionSort 13 = .ok (.iload 4, 2) := by decide +kernel
theorem dJ2_insertionSort_15 : decode cJ2_insertionSort 15 = .ok (.dup, 1) := by decide +kernel
theorem dJ2_insertionSort_16 : decode cJ2_insertionSort 16 = .ok (.istore_n 3, 1) := by decide +kernel
theorem dJ2_insertionSort_17 : decode cJ2_insertionSort 17 = .ok (.iaload, 1) := by decide +kernel
theorem dJ2_insertionSort_18 : decode cJ2_insertionSort 18 = .ok (.istore 5, 2) := by decide +kernel
theorem dJ2_insertionSort_20 : decode cJ2_insertionSort 20 = .ok (.iload 5, 2) := by decide +kernel
theorem dJ2_insertionSort_22 : decode cJ2_insertionSort 22 = .ok (.aload_n 0, 1) := by decide +kernel
theorem dJ2_insertionSort_23 : decode cJ2_insertionSort 23 = .ok (.iload_n 3, 1) := by decide +kernel
theorem dJ2_insertionSort_24 : decode cJ2_insertionSort 24 = .ok (.iconst 1, 1) := by decide +kernel
theorem dJ2_insertionSort_25 : decode cJ2_insertionSort 25 = .ok (.isub, 1) := by decide +kernel
theorem dJ2_insertionSort_26 : decode cJ2_insertionSort 26 = .ok (.iaload, 1) := by decide +kernel
theorem dJ2_insertionSort_27 : decode cJ2_insertionSort 27 = .ok (.if_icmp .ge 37, 3) := by decide +kernel
theorem dJ2_insertionSort_30 : decode cJ2_insertionSort 30 = .ok (.iinc 3 (-1), 3) := by decide +kernel
theorem dJ2_insertionSort_33 : decode cJ2_insertionSort 33 = .ok (.iload_n 3, 1) := by decide +kernel
theorem dJ2_insertionSort_34 : decode cJ2_insertionSort 34 = .ok (.iload_n 1, 1) := by decide +kernel
theorem dJ2_insertionSort_35 : decode cJ2_insertionSort 35 = .ok (.if_icmp .lt 22, 3) := by decide +kernel
theorem dJ2_insertionSort_38 : decode cJ2_insertionSort 38 = .ok (.iload 5, 2) := by decide +kernel
theorem dJ2_insertionSort_40 : decode cJ2_insertionSort 40 = .ok (.aload_n 0, 1) := by decide +kernel
theorem dJ2_insertionSort_41 : decode cJ2_insertionSort 41 = .ok (.iload_n 3, 1) := by decide +kernel
theorem dJ2_insertionSort_42 : decode cJ2_insertionSort 42 = .ok (.iaload, 1) := by decide +kernel
theorem dJ2_insertionSort_43 : decode cJ2_insertionSort 43 = .ok (.if_icmp .ge 14, 3) := by decide +kernel
theorem dJ2_insertionSort_46 : decode cJ2_insertionSort 46 = .ok (.aload_n 0, 1) := by decide +kernel
theorem dJ2_insertionSort_47 : decode cJ2_insertionSort 47 = .ok (.iload_n 3, 1) := by decide +kernel
theorem dJ2_insertionSort_48 : decode cJ2_insertionSort 48 = .ok (.iconst 1, 1) := by decide +kernel
theorem dJ2_insertionSort_49 : decode cJ2_insertionSort 49 = .ok (.iadd, 1) := by decide +kernel
theorem dJ2_insertionSort_50 : decode cJ2_insertionSort 50 = .ok (.aload_n 0, 1) := by decide +kernel
theorem dJ2_insertionSort_51 : decode cJ2_insertionSort 51 = .ok (.iload_n 3, 1) := by decide +kernel
theorem dJ2_insertionSort_52 : decode cJ2_insertionSort 52 = .ok (.iaload, 1) := by decide +kernel
theorem dJ2_insertionSort_53 : decode cJ2_insertionSort 53 = .ok (.iastore, 1) := by decide +kernel
theorem dJ2_insertionSort_54 : decode cJ2_insertionSort 54 = .ok (.goto (-24), 3) := by decide +kernel
theorem dJ2_insertionSort_57 : decode cJ2_insertionSort 57 = .ok (.aload_n 0, 1) := by decide +kernel
theorem dJ2_insertionSort_58 : decode cJ2_insertionSort 58 = .ok (.iload_n 3, 1) := by decide +kernel
theorem dJ2_insertionSort_59 : decode cJ2_insertionSort 59 = .ok (.iconst 1, 1) := by decide +kernel
theorem dJ2_insertionSort_60 : decode cJ2_insertionSort 60 = .ok (.iadd, 1) := by decide +kernel
theorem dJ2_insertionSort_61 : decode cJ2_insertionSort 61 = .ok (.iload 5, 2) := by decide +kernel
theorem dJ2_insertionSort_63 : decode cJ2_insertionSort 63 = .ok (.iastore, 1) := by decide +kernel
theorem dJ2_insertionSort_64 : decode cJ2_insertionSort 64 = .ok (.goto (-61), 3) := by decide +kernel
theorem dJ2_insertionSort_67 : decode cJ2_insertionSort 67 = .ok (.return_, 1) := by decide +kernel
theorem dJ3_bitCount_0 : decode cJ3_bitCount 0 = .ok (.iload_n 0, 1) := by decide +kernel
theorem dJ3_bitCount_1 : decode cJ3_bitCount 1 = .ok (.iload_n 0, 1) := by decide +kernel
theorem dJ3_bitCount_2 : decode cJ3_bitCount 2 = .ok (.iconst 1, 1) := by decide +kernel
theorem dJ3_bitCount_3 : decode cJ3_bitCount 3 = .ok (.iushr, 1) := by decide +kernel
theorem dJ3_bitCount_4 : decode cJ3_bitCount 4 = .ok (.ldc_w 265, 3) := by decide +kernel
theorem dJ3_bitCount_7 : decode cJ3_bitCount 7 = .ok (.iand, 1) := by decide +kernel
theorem dJ3_bitCount_8 : decode cJ3_bitCount 8 = .ok (.isub, 1) := by decide +kernel
theorem dJ3_bitCount_9 : decode cJ3_bitCount 9 = .ok (.istore_n 0, 1) := by decide +kernel
theorem dJ3_bitCount_10 : decode cJ3_bitCount 10 = .ok (.iload_n 0, 1) := by decide +kernel
theorem dJ3_bitCount_11 : decode cJ3_bitCount 11 = .ok (.ldc_w 266, 3) := by decide +kernel
theorem dJ3_bitCount_14 : decode cJ3_bitCount 14 = .ok (.iand, 1) := by decide +kernel
theorem dJ3_bitCount_15 : decode cJ3_bitCount 15 = .ok (.iload_n 0, 1) := by decide +kernel
theorem dJ3_bitCount_16 : decode cJ3_bitCount 16 = .ok (.iconst 2, 1) := by decide +kernel
theorem dJ3_bitCount_17 : decode cJ3_bitCount 17 = .ok (.iushr, 1) := by decide +kernel
theorem dJ3_bitCount_18 : decode cJ3_bitCount 18 = .ok (.ldc_w 266, 3) := by decide +kernel
theorem dJ3_bitCount_21 : decode cJ3_bitCount 21 = .ok (.iand, 1) := by decide +kernel
theorem dJ3_bitCount_22 : decode cJ3_bitCount 22 = .ok (.iadd, 1) := by decide +kernel
theorem dJ3_bitCount_23 : decode cJ3_bitCount 23 = .ok (.istore_n 0, 1) := by decide +kernel
theorem dJ3_bitCount_24 : decode cJ3_bitCount 24 = .ok (.iload_n 0, 1) := by decide +kernel
theorem dJ3_bitCount_25 : decode cJ3_bitCount 25 = .ok (.iload_n 0, 1) := by decide +kernel
theorem dJ3_bitCount_26 : decode cJ3_bitCount 26 = .ok (.iconst 4, 1) := by decide +kernel
theorem dJ3_bitCount_27 : decode cJ3_bitCount 27 = .ok (.iushr, 1) := by decide +kernel
theorem dJ3_bitCount_28 : decode cJ3_bitCount 28 = .ok (.iadd, 1) := by decide +kernel
theorem dJ3_bitCount_29 : decode cJ3_bitCount 29 = .ok (.ldc_w 267, 3) := by decide +kernel
theorem dJ3_bitCount_32 : decode cJ3_bitCount 32 = .ok (.iand, 1) := by decide +kernel
theorem dJ3_bitCount_33 : decode cJ3_bitCount 33 = .ok (.istore_n 0, 1) := by decide +kernel
theorem dJ3_bitCount_34 : decode cJ3_bitCount 34 = .ok (.iload_n 0, 1) := by decide +kernel
theorem dJ3_bitCount_35 : decode cJ3_bitCount 35 = .ok (.iload_n 0, 1) := by decide +kernel
theorem dJ3_bitCount_36 : decode cJ3_bitCount 36 = .ok (.bipush 8, 2) := by decide +kernel
theorem dJ3_bitCount_38 : decode cJ3_bitCount 38 = .ok (.iushr, 1) := by decide +kernel
theorem dJ3_bitCount_39 : decode cJ3_bitCount 39 = .ok (.iadd, 1) := by decide +kernel
theorem dJ3_bitCount_40 : decode cJ3_bitCount 40 = .ok (.istore_n 0, 1) := by decide +kernel
theorem dJ3_bitCount_41 : decode cJ3_bitCount 41 = .ok (.iload_n 0, 1) := by decide +kernel
theorem dJ3_bitCount_42 : decode cJ3_bitCount 42 = .ok (.iload_n 0, 1) := by decide +kernel
theorem dJ3_bitCount_43 : decode cJ3_bitCount 43 = .ok (.bipush 16, 2) := by decide +kernel
theorem dJ3_bitCount_45 : decode cJ3_bitCount 45 = .ok (.iushr, 1) := by decide +kernel
theorem dJ3_bitCount_46 : decode cJ3_bitCount 46 = .ok (.iadd, 1) := by decide +kernel
theorem dJ3_bitCount_47 : decode cJ3_bitCount 47 = .ok (.istore_n 0, 1) := by decide +kernel
theorem dJ3_bitCount_48 : decode cJ3_bitCount 48 = .ok (.iload_n 0, 1) := by decide +kernel
theorem dJ3_bitCount_49 : decode cJ3_bitCount 49 = .ok (.bipush 63, 2) := by decide +kernel
theorem dJ3_bitCount_51 : decode cJ3_bitCount 51 = .ok (.iand, 1) := by decide +kernel
theorem dJ3_bitCount_52 : decode cJ3_bitCount 52 = .ok (.ireturn, 1) := by decide +kernel
theorem dJ4_init_0 : decode cJ4_init 0 = .ok (.return_, 1) := by decide +kernel
theorem dL_law_0 : decode cL_law 0 = .ok (.new 7, 3) := by decide +kernel
theorem dL_law_3 : decode cL_law 3 = .ok (.dup, 1) := by decide +kernel
theorem dL_law_4 : decode cL_law 4 = .ok (.invokespecial 9, 3) := by decide +kernel
theorem dL_law_7 : decode cL_law 7 = .ok (.astore_n 1, 1) := by decide +kernel
theorem dL_law_8 : decode cL_law 8 = .ok (.new 10, 3) := by decide +kernel
theorem dL_law_11 : decode cL_law 11 = .ok (.dup, 1) := by decide +kernel
theorem dL_law_12 : decode cL_law 12 = .ok (.invokespecial 12, 3) := by decide +kernel
theorem dL_law_15 : decode cL_law 15 = .ok (.astore_n 2, 1) := by decide +kernel
theorem dL_law_16 : decode cL_law 16 = .ok (.iconst 0, 1) := by decide +kernel
theorem dL_law_17 : decode cL_law 17 = .ok (.istore_n 3, 1) := by decide +kernel
theorem dL_law_18 : decode cL_law 18 = .ok (.iload_n 3, 1) := by decide +kernel
theorem dL_law_19 : decode cL_law 19 = .ok (.aload_n 0, 1) := by decide +kernel
theorem dL_law_20 : decode cL_law 20 = .ok (.arraylength, 1) := by decide +kernel
theorem dL_law_21 : decode cL_law 21 = .ok (.iconst 4, 1) := by decide +kernel
theorem dL_law_22 : decode cL_law 22 = .ok (.isub, 1) := by decide +kernel
theorem dL_law_23 : decode cL_law 23 = .ok (.if_icmp .gt 497, 3) := by decide +kernel
theorem dL_law_26 : decode cL_law 26 = .ok (.aload_n 0, 1) := by decide +kernel
theorem dL_law_27 : decode cL_law 27 = .ok (.iload_n 3, 1) := by decide +kernel
theorem dL_law_28 : decode cL_law 28 = .ok (.iaload, 1) := by decide +kernel
theorem dL_law_29 : decode cL_law 29 = .ok (.bipush 15, 2) := by decide +kernel
theorem dL_law_31 : decode cL_law 31 = .ok (.iand, 1) := by decide +kernel
theorem dL_law_32 : decode cL_law 32 = .ok (.tableswitch 482 0 14 #[76, 119, 132, 145, 178, 211, 225, 248, 281, 314, 337, 360, 393, 436, 459], 76) := by decide +kernel
theorem dL_law_108 : decode cL_law 108 = .ok (.aload_n 1, 1) := by decide +kernel
theorem dL_law_109 : decode cL_law 109 = .ok (.aload_n 0, 1) := by decide +kernel
theorem dL_law_110 : decode cL_law 110 = .ok (.iload_n 3, 1) := by decide +kernel
theorem dL_law_111 : decode cL_law 111 = .ok (.iconst 1, 1) := by decide +kernel
theorem dL_law_112 : decode cL_law 112 = .ok (.iadd, 1) := by decide +kernel
theorem dL_law_113 : decode cL_law 113 = .ok (.iaload, 1) := by decide +kernel
theorem dL_law_114 : decode cL_law 114 = .ok (.aload_n 0, 1) := by decide +kernel
theorem dL_law_115 : decode cL_law 115 = .ok (.iload_n 3, 1) := by decide +kernel
theorem dL_law_116 : decode cL_law 116 = .ok (.iconst 2, 1) := by decide +kernel
theorem dL_law_117 : decode cL_law 117 = .ok (.iadd, 1) := by decide +kernel
theorem dL_law_118 : decode cL_law 118 = .ok (.iaload, 1) := by decide +kernel
theorem dL_law_119 : decode cL_law 119 = .ok (.aload_n 0, 1) := by decide +kernel
theorem dL_law_120 : decode cL_law 120 = .ok (.iload_n 3, 1) := by decide +kernel
theorem dL_law_121 : decode cL_law 121 = .ok (.iconst 3, 1) := by decide +kernel
theorem dL_law_122 : decode cL_law 122 = .ok (.iadd, 1) := by decide +kernel
theorem dL_law_123 : decode cL_law 123 = .ok (.iaload, 1) := by decide +kernel
theorem dL_law_124 : decode cL_law 124 = .ok (.invokevirtual 13, 3) := by decide +kernel
theorem dL_law_127 : decode cL_law 127 = .ok (.aload_n 2, 1) := by decide +kernel
theorem dL_law_128 : decode cL_law 128 = .ok (.aload_n 0, 1) := by decide +kernel
theorem dL_law_129 : decode cL_law 129 = .ok (.iload_n 3, 1) := by decide +kernel
theorem dL_law_130 : decode cL_law 130 = .ok (.iconst 1, 1) := by decide +kernel
theorem dL_law_131 : decode cL_law 131 = .ok (.iadd, 1) := by decide +kernel
theorem dL_law_132 : decode cL_law 132 = .ok (.iaload, 1) := by decide +kernel
theorem dL_law_133 : decode cL_law 133 = .ok (.aload_n 0, 1) := by decide +kernel
theorem dL_law_134 : decode cL_law 134 = .ok (.iload_n 3, 1) := by decide +kernel
theorem dL_law_135 : decode cL_law 135 = .ok (.iconst 2, 1) := by decide +kernel
theorem dL_law_136 : decode cL_law 136 = .ok (.iadd, 1) := by decide +kernel
theorem dL_law_137 : decode cL_law 137 = .ok (.iaload, 1) := by decide +kernel
theorem dL_law_138 : decode cL_law 138 = .ok (.aload_n 0, 1) := by decide +kernel
theorem dL_law_139 : decode cL_law 139 = .ok (.iload_n 3, 1) := by decide +kernel
theorem dL_law_140 : decode cL_law 140 = .ok (.iconst 3, 1) := by decide +kernel
theorem dL_law_141 : decode cL_law 141 = .ok (.iadd, 1) := by decide +kernel
theorem dL_law_142 : decode cL_law 142 = .ok (.iaload, 1) := by decide +kernel
theorem dL_law_143 : decode cL_law 143 = .ok (.invokevirtual 17, 3) := by decide +kernel
theorem dL_law_146 : decode cL_law 146 = .ok (.if_icmp .eq 368, 3) := by decide +kernel
theorem dL_law_149 : decode cL_law 149 = .ok (.iconst 0, 1) := by decide +kernel
theorem dL_law_150 : decode cL_law 150 = .ok (.ireturn, 1) := by decide +kernel
theorem dL_law_151 : decode cL_law 151 = .ok (.aload_n 1, 1) := by decide +kernel
theorem dL_law_152 : decode cL_law 152 = .ok (.invokevirtual 18, 3) := by decide +kernel
theorem dL_law_155 : decode cL_law 155 = .ok (.aload_n 2, 1) := by decide +kernel
theorem dL_law_156 : decode cL_law 156 = .ok (.invokevirtual 22, 3) := by decide +kernel
theorem dL_law_159 : decode cL_law 159 = .ok (.if_icmp .eq 355, 3) := by decide +kernel
theorem dL_law_162 : decode cL_law 162 = .ok (.iconst 0, 1) := by decide +kernel
theorem dL_law_163 : decode cL_law 163 = .ok (.ireturn, 1) := by decide +kernel
theorem dL_law_164 : decode cL_law 164 = .ok (.aload_n 1, 1) := by decide +kernel
theorem dL_law_165 : decode cL_law 165 = .ok (.invokevirtual 23, 3) := by decide +kernel
theorem dL_law_168 : decode cL_law 168 = .ok (.aload_n 2, 1) := by decide +kernel
theorem dL_law_169 : decode cL_law 169 = .ok (.invokevirtual 26, 3) := by decide +kernel
theorem dL_law_172 : decode cL_law 172 = .ok (.if_icmp .eq 342, 3) := by decide +kernel
theorem dL_law_175 : decode cL_law 175 = .ok (.iconst 0, 1) := by decide +kernel
theorem dL_law_176 : decode cL_law 176 = .ok (.ireturn, 1) := by decide +kernel
theorem dL_law_177 : decode cL_law 177 = .ok (.aload_n 1, 1) := by decide +kernel
theorem dL_law_178 : decode cL_law 178 = .ok (.aload_n 0, 1) := by decide +kernel
theorem dL_law_179 : decode cL_law 179 = .ok (.iload_n 3, 1) := by decide +kernel
theorem dL_law_180 : decode cL_law 180 = .ok (.iconst 1, 1) := by decide +kernel
theorem dL_law_181 : decode cL_law 181 = .ok (.iadd, 1) := by decide +kernel
theorem dL_law_182 : decode cL_law 182 = .ok (.iaload, 1) := by decide +kernel
theorem dL_law_183 : decode cL_law 183 = .ok (.aload_n 0, 1) := by decide +kernel
theorem dL_law_184 : decode cL_law 184 = .ok (.iload_n 3, 1) := by decide +kernel
theorem dL_law_185 : decode cL_law 185 = .ok (.iconst 2, 1) := by decide +kernel
theorem dL_law_186 : decode cL_law 186 = .ok (.iadd, 1) := by decide +kernel
theorem dL_law_187 : decode cL_law 187 = .ok (.iaload, 1) := by decide +kernel
theorem dL_law_188 : decode cL_law 188 = .ok (.invokevirtual 27, 3) := by decide +kernel
theorem dL_law_191 : decode cL_law 191 = .ok (.aload_n 2, 1) := by decide +kernel
theorem dL_law_192 : decode cL_law 192 = .ok (.aload_n 0, 1) := by decide +kernel
theorem dL_law_193 : decode cL_law 193 = .ok (.iload_n 3, 1) := by decide +kernel
theorem dL_law_194 : decode cL_law 194 = .ok (.iconst 1, 1) := by decide +kernel
theorem dL_law_195 : decode cL_law 195 = .ok (.iadd, 1) := by decide +kernel
theorem dL_law_196 : decode cL_law 196 = .ok (.iaload, 1) := by decide +kernel
theorem dL_law_197 : decode cL_law 197 = .ok (.aload_n 0, 1) := by decide +kernel
theorem dL_law_198 : decode cL_law 198 = .ok (.iload_n 3, 1) := by decide +kernel
theorem dL_law_199 : decode cL_law 199 = .ok (.iconst 2, 1) := by decide +kernel
theorem dL_law_200 : decode cL_law 200 = .ok (.iadd, 1) := by decide +kernel
theorem dL_law_201 : decode cL_law 201 = .ok (.iaload, 1) := by decide +kernel
theorem dL_law_202 : decode cL_law 202 = .ok (.invokevirtual 31, 3) := by decide +kernel
theorem dL_law_205 : decode cL_law 205 = .ok (.if_icmp .eq 309, 3) := by decide +kernel
theorem dL_law_208 : decode cL_law 208 = .ok (.iconst 0, 1) := by decide +kernel
theorem dL_law_209 : decode cL_law 209 = .ok (.ireturn, 1) := by decide +kernel
theorem dL_law_210 : decode cL_law 210 = .ok (.aload_n 1, 1) := by decide +kernel
theorem dL_law_211 : decode cL_law 211 = .ok (.aload_n 0, 1) := by decide +kernel
theorem dL_law_212 : decode cL_law 212 = .ok (.iload_n 3, 1) := by decide +kernel
theorem dL_law_213 : decode cL_law 213 = .ok (.iconst 1, 1) := by decide +kernel
theorem dL_law_214 : decode cL_law 214 = .ok (.iadd, 1) := by decide +kernel
theorem dL_law_215 : decode cL_law 215 = .ok (.iaload, 1) := by decide +kernel
theorem dL_law_216 : decode cL_law 216 = .ok (.aload_n 0, 1) := by decide +kernel
theorem dL_law_217 : decode cL_law 217 = .ok (.iload_n 3, 1) := by decide +kernel
theorem dL_law_218 : decode cL_law 218 = .ok (.iconst 2, 1) := by decide +kernel
theorem dL_law_219 : decode cL_law 219 = .ok (.iadd, 1) := by decide +kernel
theorem dL_law_220 : decode cL_law 220 = .ok (.iaload, 1) := by decide +kernel
theorem dL_law_221 : decode cL_law 221 = .ok (.invokevirtual 32, 3) := by decide +kernel
theorem dL_law_224 : decode cL_law 224 = .ok (.aload_n 2, 1) := by decide +kernel
theorem dL_law_225 : decode cL_law 225 = .ok (.aload_n 0, 1) := by decide +kernel
theorem dL_law_226 : decode cL_law 226 = .ok (.iload_n 3, 1) := by decide +kernel
theorem dL_law_227 : decode cL_law 227 = .ok (.iconst 1, 1) := by decide +kernel
theorem dL_law_228 : decode cL_law 228 = .ok (.iadd, 1) := by decide +kernel
theorem dL_law_229 : decode cL_law 229 = .ok (.iaload, 1) := by decide +kernel
theorem dL_law_230 : decode cL_law 230 = .ok (.aload_n 0, 1) := by decide +kernel
theorem dL_law_231 : decode cL_law 231 = .ok (.iload_n 3, 1) := by decide +kernel
theorem dL_law_232 : decode cL_law 232 = .ok (.iconst 2, 1) := by decide +kernel
theorem dL_law_233 : decode cL_law 233 = .ok (.iadd, 1) := by decide +kernel
theorem dL_law_234 : decode cL_law 234 = .ok (.iaload, 1) := by decide +kernel
theorem dL_law_235 : decode cL_law 235 = .ok (.invokevirtual 35, 3) := by decide +kernel
theorem dL_law_238 : decode cL_law 238 = .ok (.if_icmp .eq 276, 3) := by decide +kernel
theorem dL_law_241 : decode cL_law 241 = .ok (.iconst 0, 1) := by decide +kernel
theorem dL_law_242 : decode cL_law 242 = .ok (.ireturn, 1) := by decide +kernel
theorem dL_law_243 : decode cL_law 243 = .ok (.aload_n 1, 1) := by decide +kernel
theorem dL_law_244 : decode cL_law 244 = .ok (.invokevirtual 36, 3) := by decide +kernel
theorem dL_law_247 : decode cL_law 247 = .ok (.aload_n 2, 1) := by decide +kernel
theorem dL_law_248 : decode cL_law 248 = .ok (.invokevirtual 40, 3) := by decide +kernel
theorem dL_law_251 : decode cL_law 251 = .ok (.lcmp, 1) := by decide +kernel
theorem dL_law_252 : decode cL_law 252 = .ok (.ifCond .eq 262, 3) := by decide +kernel
theorem dL_law_255 : decode cL_law 255 = .ok (.iconst 0, 1) := by decide +kernel
theorem dL_law_256 : decode cL_law 256 = .ok (.ireturn, 1) := by decide +kernel
theorem dL_law_257 : decode cL_law 257 = .ok (.aload_n 1, 1) := by decide +kernel
theorem dL_law_258 : decode cL_law 258 = .ok (.aload_n 0, 1) := by decide +kernel
theorem dL_law_259 : decode cL_law 259 = .ok (.iload_n 3, 1) := by decide +kernel
theorem dL_law_260 : decode cL_law 260 = .ok (.iconst 1, 1) := by decide +kernel
theorem dL_law_261 : decode cL_law 261 = .ok (.iadd, 1) := by decide +kernel
theorem dL_law_262 : decode cL_law 262 = .ok (.iaload, 1) := by decide +kernel
theorem dL_law_263 : decode cL_law 263 = .ok (.invokevirtual 41, 3) := by decide +kernel
theorem dL_law_266 : decode cL_law 266 = .ok (.aload_n 2, 1) := by decide +kernel
theorem dL_law_267 : decode cL_law 267 = .ok (.aload_n 0, 1) := by decide +kernel
theorem dL_law_268 : decode cL_law 268 = .ok (.iload_n 3, 1) := by decide +kernel
theorem dL_law_269 : decode cL_law 269 = .ok (.iconst 1, 1) := by decide +kernel
theorem dL_law_270 : decode cL_law 270 = .ok (.iadd, 1) := by decide +kernel
theorem dL_law_271 : decode cL_law 271 = .ok (.iaload, 1) := by decide +kernel
theorem dL_law_272 : decode cL_law 272 = .ok (.invokevirtual 45, 3) := by decide +kernel
theorem dL_law_275 : decode cL_law 275 = .ok (.if_icmp .eq 239, 3) := by decide +kernel
theorem dL_law_278 : decode cL_law 278 = .ok (.iconst 0, 1) := by decide +kernel
theorem dL_law_279 : decode cL_law 279 = .ok (.ireturn, 1) := by decide +kernel
theorem dL_law_280 : decode cL_law 280 = .ok (.aload_n 1, 1) := by decide +kernel
theorem dL_law_281 : decode cL_law 281 = .ok (.aload_n 0, 1) := by decide +kernel
theorem dL_law_282 : decode cL_law 282 = .ok (.iload_n 3, 1) := by decide +kernel
theorem dL_law_283 : decode cL_law 283 = .ok (.iconst 1, 1) := by decide +kernel
theorem dL_law_284 : decode cL_law 284 = .ok (.iadd, 1) := by decide +kernel
theorem dL_law_285 : decode cL_law 285 = .ok (.iaload, 1) := by decide +kernel
theorem dL_law_286 : decode cL_law 286 = .ok (.aload_n 0, 1) := by decide +kernel
theorem dL_law_287 : decode cL_law 287 = .ok (.iload_n 3, 1) := by decide +kernel
theorem dL_law_288 : decode cL_law 288 = .ok (.iconst 2, 1) := by decide +kernel
theorem dL_law_289 : decode cL_law 289 = .ok (.iadd, 1) := by decide +kernel
theorem dL_law_290 : decode cL_law 290 = .ok (.iaload, 1) := by decide +kernel
theorem dL_law_291 : decode cL_law 291 = .ok (.invokevirtual 46, 3) := by decide +kernel
theorem dL_law_294 : decode cL_law 294 = .ok (.aload_n 2, 1) := by decide +kernel
theorem dL_law_295 : decode cL_law 295 = .ok (.aload_n 0, 1) := by decide +kernel
theorem dL_law_296 : decode cL_law 296 = .ok (.iload_n 3, 1) := by decide +kernel
theorem dL_law_297 : decode cL_law 297 = .ok (.iconst 1, 1) := by decide +kernel
theorem dL_law_298 : decode cL_law 298 = .ok (.iadd, 1) := by decide +kernel
theorem dL_law_299 : decode cL_law 299 = .ok (.iaload, 1) := by decide +kernel
theorem dL_law_300 : decode cL_law 300 = .ok (.aload_n 0, 1) := by decide +kernel
theorem dL_law_301 : decode cL_law 301 = .ok (.iload_n 3, 1) := by decide +kernel
theorem dL_law_302 : decode cL_law 302 = .ok (.iconst 2, 1) := by decide +kernel
theorem dL_law_303 : decode cL_law 303 = .ok (.iadd, 1) := by decide +kernel
theorem dL_law_304 : decode cL_law 304 = .ok (.iaload, 1) := by decide +kernel
theorem dL_law_305 : decode cL_law 305 = .ok (.invokevirtual 49, 3) := by decide +kernel
theorem dL_law_308 : decode cL_law 308 = .ok (.if_icmp .eq 206, 3) := by decide +kernel
theorem dL_law_311 : decode cL_law 311 = .ok (.iconst 0, 1) := by decide +kernel
theorem dL_law_312 : decode cL_law 312 = .ok (.ireturn, 1) := by decide +kernel
theorem dL_law_313 : decode cL_law 313 = .ok (.aload_n 1, 1) := by decide +kernel
theorem dL_law_314 : decode cL_law 314 = .ok (.aload_n 0, 1) := by decide +kernel
theorem dL_law_315 : decode cL_law 315 = .ok (.iload_n 3, 1) := by decide +kernel
theorem dL_law_316 : decode cL_law 316 = .ok (.iconst 1, 1) := by decide +kernel
theorem dL_law_317 : decode cL_law 317 = .ok (.iadd, 1) := by decide +kernel
theorem dL_law_318 : decode cL_law 318 = .ok (.iaload, 1) := by decide +kernel
theorem dL_law_319 : decode cL_law 319 = .ok (.aload_n 0, 1) := by decide +kernel
theorem dL_law_320 : decode cL_law 320 = .ok (.iload_n 3, 1) := by decide +kernel
theorem dL_law_321 : decode cL_law 321 = .ok (.iconst 2, 1) := by decide +kernel
theorem dL_law_322 : decode cL_law 322 = .ok (.iadd, 1) := by decide +kernel
theorem dL_law_323 : decode cL_law 323 = .ok (.iaload, 1) := by decide +kernel
theorem dL_law_324 : decode cL_law 324 = .ok (.invokevirtual 50, 3) := by decide +kernel
theorem dL_law_327 : decode cL_law 327 = .ok (.aload_n 2, 1) := by decide +kernel
theorem dL_law_328 : decode cL_law 328 = .ok (.aload_n 0, 1) := by decide +kernel
theorem dL_law_329 : decode cL_law 329 = .ok (.iload_n 3, 1) := by decide +kernel
theorem dL_law_330 : decode cL_law 330 = .ok (.iconst 1, 1) := by decide +kernel
theorem dL_law_331 : decode cL_law 331 = .ok (.iadd, 1) := by decide +kernel
theorem dL_law_332 : decode cL_law 332 = .ok (.iaload, 1) := by decide +kernel
theorem dL_law_333 : decode cL_law 333 = .ok (.aload_n 0, 1) := by decide +kernel
theorem dL_law_334 : decode cL_law 334 = .ok (.iload_n 3, 1) := by decide +kernel
theorem dL_law_335 : decode cL_law 335 = .ok (.iconst 2, 1) := by decide +kernel
theorem dL_law_336 : decode cL_law 336 = .ok (.iadd, 1) := by decide +kernel
theorem dL_law_337 : decode cL_law 337 = .ok (.iaload, 1) := by decide +kernel
theorem dL_law_338 : decode cL_law 338 = .ok (.invokevirtual 53, 3) := by decide +kernel
theorem dL_law_341 : decode cL_law 341 = .ok (.if_icmp .eq 173, 3) := by decide +kernel
theorem dL_law_344 : decode cL_law 344 = .ok (.iconst 0, 1) := by decide +kernel
theorem dL_law_345 : decode cL_law 345 = .ok (.ireturn, 1) := by decide +kernel
theorem dL_law_346 : decode cL_law 346 = .ok (.aload_n 1, 1) := by decide +kernel
theorem dL_law_347 : decode cL_law 347 = .ok (.aload_n 0, 1) := by decide +kernel
theorem dL_law_348 : decode cL_law 348 = .ok (.iload_n 3, 1) := by decide +kernel
theorem dL_law_349 : decode cL_law 349 = .ok (.iconst 1, 1) := by decide +kernel
theorem dL_law_350 : decode cL_law 350 = .ok (.iadd, 1) := by decide +kernel
theorem dL_law_351 : decode cL_law 351 = .ok (.iaload, 1) := by decide +kernel
theorem dL_law_352 : decode cL_law 352 = .ok (.invokevirtual 54, 3) := by decide +kernel
theorem dL_law_355 : decode cL_law 355 = .ok (.aload_n 2, 1) := by decide +kernel
theorem dL_law_356 : decode cL_law 356 = .ok (.aload_n 0, 1) := by decide +kernel
theorem dL_law_357 : decode cL_law 357 = .ok (.iload_n 3, 1) := by decide +kernel
theorem dL_law_358 : decode cL_law 358 = .ok (.iconst 1, 1) := by decide +kernel
theorem dL_law_359 : decode cL_law 359 = .ok (.iadd, 1) := by decide +kernel
theorem dL_law_360 : decode cL_law 360 = .ok (.iaload, 1) := by decide +kernel
theorem dL_law_361 : decode cL_law 361 = .ok (.invokevirtual 57, 3) := by decide +kernel
theorem dL_law_364 : decode cL_law 364 = .ok (.if_icmp .eq 150, 3) := by decide +kernel
theorem dL_law_367 : decode cL_law 367 = .ok (.iconst 0, 1) := by decide +kernel
theorem dL_law_368 : decode cL_law 368 = .ok (.ireturn, 1) := by decide +kernel
theorem dL_law_369 : decode cL_law 369 = .ok (.aload_n 1, 1) := by decide +kernel
theorem dL_law_370 : decode cL_law 370 = .ok (.aload_n 0, 1) := by decide +kernel
theorem dL_law_371 : decode cL_law 371 = .ok (.iload_n 3, 1) := by decide +kernel
theorem dL_law_372 : decode cL_law 372 = .ok (.iconst 1, 1) := by decide +kernel
theorem dL_law_373 : decode cL_law 373 = .ok (.iadd, 1) := by decide +kernel
theorem dL_law_374 : decode cL_law 374 = .ok (.iaload, 1) := by decide +kernel
theorem dL_law_375 : decode cL_law 375 = .ok (.invokevirtual 58, 3) := by decide +kernel
theorem dL_law_378 : decode cL_law 378 = .ok (.aload_n 2, 1) := by decide +kernel
theorem dL_law_379 : decode cL_law 379 = .ok (.aload_n 0, 1) := by decide +kernel
theorem dL_law_380 : decode cL_law 380 = .ok (.iload_n 3, 1) := by decide +kernel
theorem dL_law_381 : decode cL_law 381 = .ok (.iconst 1, 1) := by decide +kernel
theorem dL_law_382 : decode cL_law 382 = .ok (.iadd, 1) := by decide +kernel
theorem dL_law_383 : decode cL_law 383 = .ok (.iaload, 1) := by decide +kernel
theorem dL_law_384 : decode cL_law 384 = .ok (.invokevirtual 61, 3) := by decide +kernel
theorem dL_law_387 : decode cL_law 387 = .ok (.if_icmp .eq 127, 3) := by decide +kernel
theorem dL_law_390 : decode cL_law 390 = .ok (.iconst 0, 1) := by decide +kernel
theorem dL_law_391 : decode cL_law 391 = .ok (.ireturn, 1) := by decide +kernel
theorem dL_law_392 : decode cL_law 392 = .ok (.aload_n 1, 1) := by decide +kernel
theorem dL_law_393 : decode cL_law 393 = .ok (.aload_n 0, 1) := by decide +kernel
theorem dL_law_394 : decode cL_law 394 = .ok (.iload_n 3, 1) := by decide +kernel
theorem dL_law_395 : decode cL_law 395 = .ok (.iconst 1, 1) := by decide +kernel
theorem dL_law_396 : decode cL_law 396 = .ok (.iadd, 1) := by decide +kernel
theorem dL_law_397 : decode cL_law 397 = .ok (.iaload, 1) := by decide +kernel
theorem dL_law_398 : decode cL_law 398 = .ok (.aload_n 0, 1) := by decide +kernel
theorem dL_law_399 : decode cL_law 399 = .ok (.iload_n 3, 1) := by decide +kernel
theorem dL_law_400 : decode cL_law 400 = .ok (.iconst 2, 1) := by decide +kernel
theorem dL_law_401 : decode cL_law 401 = .ok (.iadd, 1) := by decide +kernel
theorem dL_law_402 : decode cL_law 402 = .ok (.iaload, 1) := by decide +kernel
theorem dL_law_403 : decode cL_law 403 = .ok (.invokevirtual 62, 3) := by decide +kernel
theorem dL_law_406 : decode cL_law 406 = .ok (.aload_n 2, 1) := by decide +kernel
theorem dL_law_407 : decode cL_law 407 = .ok (.aload_n 0, 1) := by decide +kernel
theorem dL_law_408 : decode cL_law 408 = .ok (.iload_n 3, 1) := by decide +kernel
theorem dL_law_409 : decode cL_law 409 = .ok (.iconst 1, 1) := by decide +kernel
theorem dL_law_410 : decode cL_law 410 = .ok (.iadd, 1) := by decide +kernel
theorem dL_law_411 : decode cL_law 411 = .ok (.iaload, 1) := by decide +kernel
theorem dL_law_412 : decode cL_law 412 = .ok (.aload_n 0, 1) := by decide +kernel
theorem dL_law_413 : decode cL_law 413 = .ok (.iload_n 3, 1) := by decide +kernel
theorem dL_law_414 : decode cL_law 414 = .ok (.iconst 2, 1) := by decide +kernel
theorem dL_law_415 : decode cL_law 415 = .ok (.iadd, 1) := by decide +kernel
theorem dL_law_416 : decode cL_law 416 = .ok (.iaload, 1) := by decide +kernel
theorem dL_law_417 : decode cL_law 417 = .ok (.invokevirtual 65, 3) := by decide +kernel
theorem dL_law_420 : decode cL_law 420 = .ok (.if_icmp .eq 94, 3) := by decide +kernel
theorem dL_law_423 : decode cL_law 423 = .ok (.iconst 0, 1) := by decide +kernel
theorem dL_law_424 : decode cL_law 424 = .ok (.ireturn, 1) := by decide +kernel
theorem dL_law_425 : decode cL_law 425 = .ok (.aload_n 1, 1) := by decide +kernel
theorem dL_law_426 : decode cL_law 426 = .ok (.aload_n 0, 1) := by decide +kernel
theorem dL_law_427 : decode cL_law 427 = .ok (.iload_n 3, 1) := by decide +kernel
theorem dL_law_428 : decode cL_law 428 = .ok (.iconst 1, 1) := by decide +kernel
theorem dL_law_429 : decode cL_law 429 = .ok (.iadd, 1) := by decide +kernel
theorem dL_law_430 : decode cL_law 430 = .ok (.iaload, 1) := by decide +kernel
theorem dL_law_431 : decode cL_law 431 = .ok (.aload_n 0, 1) := by decide +kernel
theorem dL_law_432 : decode cL_law 432 = .ok (.iload_n 3, 1) := by decide +kernel
theorem dL_law_433 : decode cL_law 433 = .ok (.iconst 2, 1) := by decide +kernel
theorem dL_law_434 : decode cL_law 434 = .ok (.iadd, 1) := by decide +kernel
theorem dL_law_435 : decode cL_law 435 = .ok (.iaload, 1) := by decide +kernel
theorem dL_law_436 : decode cL_law 436 = .ok (.aload_n 0, 1) := by decide +kernel
theorem dL_law_437 : decode cL_law 437 = .ok (.iload_n 3, 1) := by decide +kernel
theorem dL_law_438 : decode cL_law 438 = .ok (.iconst 3, 1) := by decide +kernel
theorem dL_law_439 : decode cL_law 439 = .ok (.iadd, 1) := by decide +kernel
theorem dL_law_440 : decode cL_law 440 = .ok (.iaload, 1) := by decide +kernel
theorem dL_law_441 : decode cL_law 441 = .ok (.invokevirtual 66, 3) := by decide +kernel
theorem dL_law_444 : decode cL_law 444 = .ok (.aload_n 2, 1) := by decide +kernel
theorem dL_law_445 : decode cL_law 445 = .ok (.aload_n 0, 1) := by decide +kernel
theorem dL_law_446 : decode cL_law 446 = .ok (.iload_n 3, 1) := by decide +kernel
theorem dL_law_447 : decode cL_law 447 = .ok (.iconst 1, 1) := by decide +kernel
theorem dL_law_448 : decode cL_law 448 = .ok (.iadd, 1) := by decide +kernel
theorem dL_law_449 : decode cL_law 449 = .ok (.iaload, 1) := by decide +kernel
theorem dL_law_450 : decode cL_law 450 = .ok (.aload_n 0, 1) := by decide +kernel
theorem dL_law_451 : decode cL_law 451 = .ok (.iload_n 3, 1) := by decide +kernel
theorem dL_law_452 : decode cL_law 452 = .ok (.iconst 2, 1) := by decide +kernel
theorem dL_law_453 : decode cL_law 453 = .ok (.iadd, 1) := by decide +kernel
theorem dL_law_454 : decode cL_law 454 = .ok (.iaload, 1) := by decide +kernel
theorem dL_law_455 : decode cL_law 455 = .ok (.aload_n 0, 1) := by decide +kernel
theorem dL_law_456 : decode cL_law 456 = .ok (.iload_n 3, 1) := by decide +kernel
theorem dL_law_457 : decode cL_law 457 = .ok (.iconst 3, 1) := by decide +kernel
theorem dL_law_458 : decode cL_law 458 = .ok (.iadd, 1) := by decide +kernel
theorem dL_law_459 : decode cL_law 459 = .ok (.iaload, 1) := by decide +kernel
theorem dL_law_460 : decode cL_law 460 = .ok (.invokevirtual 69, 3) := by decide +kernel
theorem dL_law_463 : decode cL_law 463 = .ok (.if_icmp .eq 51, 3) := by decide +kernel
theorem dL_law_466 : decode cL_law 466 = .ok (.iconst 0, 1) := by decide +kernel
theorem dL_law_467 : decode cL_law 467 = .ok (.ireturn, 1) := by decide +kernel
theorem dL_law_468 : decode cL_law 468 = .ok (.aload_n 1, 1) := by decide +kernel
theorem dL_law_469 : decode cL_law 469 = .ok (.aload_n 0, 1) := by decide +kernel
theorem dL_law_470 : decode cL_law 470 = .ok (.iload_n 3, 1) := by decide +kernel
theorem dL_law_471 : decode cL_law 471 = .ok (.iconst 1, 1) := by decide +kernel
theorem dL_law_472 : decode cL_law 472 = .ok (.iadd, 1) := by decide +kernel
theorem dL_law_473 : decode cL_law 473 = .ok (.iaload, 1) := by decide +kernel
theorem dL_law_474 : decode cL_law 474 = .ok (.invokevirtual 70, 3) := by decide +kernel
theorem dL_law_477 : decode cL_law 477 = .ok (.aload_n 2, 1) := by decide +kernel
theorem dL_law_478 : decode cL_law 478 = .ok (.aload_n 0, 1) := by decide +kernel
theorem dL_law_479 : decode cL_law 479 = .ok (.iload_n 3, 1) := by decide +kernel
theorem dL_law_480 : decode cL_law 480 = .ok (.iconst 1, 1) := by decide +kernel
theorem dL_law_481 : decode cL_law 481 = .ok (.iadd, 1) := by decide +kernel
theorem dL_law_482 : decode cL_law 482 = .ok (.iaload, 1) := by decide +kernel
theorem dL_law_483 : decode cL_law 483 = .ok (.invokevirtual 73, 3) := by decide +kernel
theorem dL_law_486 : decode cL_law 486 = .ok (.if_icmp .eq 28, 3) := by decide +kernel
theorem dL_law_489 : decode cL_law 489 = .ok (.iconst 0, 1) := by decide +kernel
theorem dL_law_490 : decode cL_law 490 = .ok (.ireturn, 1) := by decide +kernel
theorem dL_law_491 : decode cL_law 491 = .ok (.aload_n 1, 1) := by decide +kernel
theorem dL_law_492 : decode cL_law 492 = .ok (.aload_n 0, 1) := by decide +kernel
theorem dL_law_493 : decode cL_law 493 = .ok (.iload_n 3, 1) := by decide +kernel
theorem dL_law_494 : decode cL_law 494 = .ok (.iconst 1, 1) := by decide +kernel
theorem dL_law_495 : decode cL_law 495 = .ok (.iadd, 1) := by decide +kernel
theorem dL_law_496 : decode cL_law 496 = .ok (.iaload, 1) := by decide +kernel
theorem dL_law_497 : decode cL_law 497 = .ok (.invokevirtual 74, 3) := by decide +kernel
theorem dL_law_500 : decode cL_law 500 = .ok (.aload_n 2, 1) := by decide +kernel
theorem dL_law_501 : decode cL_law 501 = .ok (.aload_n 0, 1) := by decide +kernel
theorem dL_law_502 : decode cL_law 502 = .ok (.iload_n 3, 1) := by decide +kernel
theorem dL_law_503 : decode cL_law 503 = .ok (.iconst 1, 1) := by decide +kernel
theorem dL_law_504 : decode cL_law 504 = .ok (.iadd, 1) := by decide +kernel
theorem dL_law_505 : decode cL_law 505 = .ok (.iaload, 1) := by decide +kernel
theorem dL_law_506 : decode cL_law 506 = .ok (.invokevirtual 77, 3) := by decide +kernel
theorem dL_law_509 : decode cL_law 509 = .ok (.if_icmp .eq 5, 3) := by decide +kernel
theorem dL_law_512 : decode cL_law 512 = .ok (.iconst 0, 1) := by decide +kernel
theorem dL_law_513 : decode cL_law 513 = .ok (.ireturn, 1) := by decide +kernel
theorem dL_law_514 : decode cL_law 514 = .ok (.iinc 3 4, 3) := by decide +kernel
theorem dL_law_517 : decode cL_law 517 = .ok (.goto (-499), 3) := by decide +kernel
theorem dL_law_520 : decode cL_law 520 = .ok (.iconst 1, 1) := by decide +kernel
theorem dL_law_521 : decode cL_law 521 = .ok (.ireturn, 1) := by decide +kernel
end
section
set_option maxRecDepth 100000
/-! THE TWO WORLDS: cells by number (t = 0: NetSearch and all that it holds; t = 1: NetSearchModel), their contents as functions -/
abbrev Mem : Type := (Nat → Nat → Int32) × (Nat → Nat → Int64) × (Nat → Nat)
/-- the classes' numbers, a cell's address by its number, the array classes, the six Ways' addresses -/
abbrev XE : Type := va_G × (Nat → Nat) × (Nat → ClassId) × (Nat → Nat)
abbrev clL : List vw_C := [(RX0, TX0, 33), (RX2, TX2, 11), (RX3, TX3, 4), (RX4, TX4, 44)]
def kdS : List Nat := [1,10,4,4,0,4,4,4,0,7, 9,0,0,0,4,0,0,0,0,0, 0,0,4,4,0,8,4,4,4,4, 4,4,4,4,0,0,0,0,0,0, 2,0,0,0,4,5,4,4,4,4, 4,0,0,0,0,0,0,0,0,0, 2,0,0,0,4,5,4,4,4,4, 4]
def lnS : List Nat := [0,6,6,6,0,5,5,5,0,22, 22,0,0,0,22,0,0,0,0,0, 0,0,22,22,0,64,64,22,22,22, 22,22,88,22,0,0,0,0,0,0, 0,0,0,0,22,22,22,22,22,22, 4096,0,0,0,0,0,0,0,0,0, 0,0,0,0,22,22,22,22,22,22, 4096]
def kdL : List Nat := [11,0,4,4,4,0,4,4,0,5, 4,4,4,4,0,4,4,5,4,4, 4,4,0,0,0,0,0,0,0,4, 4,0,4,4,4,4,6,4,4,4, 4,4,4,4,4]
def lnL : List Nat := [0,0,5,5,5,0,30,30,0,30, 30,30,30,30,0,30,30,30,30,30, 30,30,0,0,0,0,0,0,0,30, 30,0,64,1920,180,180,900,30,30,30, 30,30,30,30,30]
/-- the kind of a cell: 0 none, 1 NetSearch, 2 Sheet, 3 Face, 4 int array, 5 boolean array, 6 long array, 7 Face array, 8 shapes, 9 rows, 10 ways, 11 NetSearchModel -/
def kd (t k : Nat) : Nat := if t = 0 then (if k < 100 then kdS.getD k 0 else if k < 122 then 3 else if k < 200 then 0 else if k < 222 then 4 else if k < 300 then 0 else if k < 322 then 4 else if k < 400 then 0 else if k < 422 then 6 else if k < 500 then 0 else if k < 564 then 4 else 0) else kdL.getD k 0
def ln (t k : Nat) : Nat := if t = 0 then (if k < 100 then lnS.getD k 0 else if k < 122 then 0 else if k < 400 then 6 else 22) else lnL.getD k 0
def fsX (d : Nat → Nat) (a : Nat → Int32) : List Value := [.ref (d 1), .ref (d 2), .ref (d 3), .int (a 3), .ref (d 5), .ref (d 6), .ref (d 7), .int (a 7), .ref (d 9), .ref (d 10), .ref (d 40), .ref (d 60), .int (a 12), .ref (d 14), .int (a 14), .int (a 15), .int (a 16), .int (a 17), .int (a 18), .int (a 19), .int (a 20), .ref (d 22), .ref (d 23), .int (a 23), .ref (d 25), .ref (d 26), .ref (d 27), .ref (d 28), .ref (d 29), .ref (d 30), .ref (d 31), .ref (d 32), .ref (d 33)]
def fsS (d : Nat → Nat) (k : Nat) (a : Nat → Int32) : List Value := [.ref (d 9), .ref (d 2), .ref (d 3), .int (a 3), .ref (d (k + 4)), .ref (d (k + 5)), .ref (d (k + 6)), .ref (d (k + 7)), .ref (d (k + 8)), .ref (d (k + 9)), .ref (d (k + 10))]
def fsF (d : Nat → Nat) (k : Nat) (a : Nat → Int32) : List Value := [.int (a 0), .int (a 1), .ref (d (k + 100)), .ref (d (k + 200))]
def fsM (d : Nat → Nat) (a : Nat → Int32) : List Value := [.int (a 0), .ref (d 2), .ref (d 3), .ref (d 4), .int (a 4), .ref (d 6), .ref (d 7), .int (a 7), .ref (d 9), .ref (d 10), .ref (d 11), .ref (d 12), .ref (d 13), .int (a 13), .ref (d 15), .ref (d 16), .ref (d 17), .ref (d 18), .ref (d 19), .ref (d 20), .ref (d 21), .int (a 21), .int (a 22), .int (a 23), .int (a 24), .int (a 25), .int (a 26), .int (a 27), .ref (d 29), .ref (d 30), .int (a 30), .ref (d 32), .ref (d 33), .ref (d 34), .ref (d 35), .ref (d 36), .ref (d 37), .ref (d 38), .ref (d 39), .ref (d 40), .ref (d 41), .ref (d 42), .ref (d 43), .ref (d 44)]
def cw (t : Nat) (E : XE) (k : Nat) (a : Nat → Int32) (g : Nat → Int64) (P : Nat → Nat) : va_E := match kd t k with
  | 1 => .inr (0, fsX E.2.1 a)
  | 2 => .inr (1, fsS E.2.1 k a)
  | 3 => .inr (2, fsF E.2.1 k a)
  | 4 => .inl (E.2.2.1 0, ln t k, .inl a)
  | 5 => .inl (E.2.2.1 1, ln t k, .inl a)
  | 6 => .inl (E.2.2.1 2, ln t k, .inr (.inl g))
  | 7 => .inl (E.2.2.1 3, 22, .inr (.inr (.inr (.inr (fun j => some (E.2.1 (100 + j)))))))
  | 8 => .inl (E.2.2.1 4, 64, .inr (.inr (.inr (.inr (fun j => some (E.2.1 (500 + j)))))))
  | 9 => .inl (E.2.2.1 5, 22, .inr (.inr (.inr (.inr (fun j => some (E.2.1 (400 + P j)))))))
  | 10 => .inl (E.2.2.1 6, 6, .inr (.inr (.inr (.inr (fun j => some (E.2.2.2 j))))))
  | 11 => .inr (3, fsM E.2.1 a)
  | _ => .inl (0, 0, .inl a)
def XA (t : Nat) (E : XE) : Nat → Prop := fun q => ∃ k, kd t k ≠ 0 ∧ q = E.2.1 k
def XP (t : Nat) (E : XE) (M : Mem) (H : Heap) : Prop := (∀ i j, kd t i ≠ 0 → kd t j ≠ 0 → E.2.1 i = E.2.1 j → i = j) ∧ (∀ k, kd t k ≠ 0 → va_at E.1 clL (E.2.1 k, cw t E k (M.1 k) (M.2.1 k) M.2.2) H) ∧ ∀ j, j < 22 → M.2.2 j < 22
def XS (t : Nat) (E : XE) (H0 H : Heap) (locs : List Loc) : Prop := H.size = H0.size ∧ (∀ q : Nat, ¬ XA t E q → H[q]? = H0[q]?) ∧ ∀ l ∈ locs, XA t E l.base
def XI (t : Nat) (E : XE) (s : State) (H : Heap) (locs : List Loc) (M : Mem) : Prop := XP t E M H ∧ XS t E s.heap H locs
def up2 {α : Type} (A : Nat → Nat → α) (k i : Nat) (v : α) : Nat → Nat → α := fun b => if b = k then va_up (A k) i v else A b
theorem up2_s {α : Type} (A : Nat → Nat → α) (k i : Nat) (v : α) : up2 A k i v k = va_up (A k) i v := if_pos rfl
theorem up2_n {α : Type} (A : Nat → Nat → α) {k b : Nat} (i : Nat) (v : α) (h : b ≠ k) : up2 A k i v b = A b := if_neg h
/-- the nest mates' words, which ride in no list -/
def nwL : List Cond := [.fieldLinkNest "NetSearch" 229 "NetSearch$Sheet" "many" "I" "NetSearch", .fieldLinkNest "NetSearch" 238 "NetSearch$Sheet" "order" "[I" "NetSearch", .fieldLinkNest "NetSearch" 201 "NetSearch$Sheet" "lies" "[Z" "NetSearch", .fieldLinkNest "NetSearch" 219 "NetSearch$Sheet" "x" "[I" "NetSearch", .fieldLinkNest "NetSearch" 221 "NetSearch$Sheet" "y" "[I" "NetSearch", .fieldLinkNest "NetSearch" 223 "NetSearch$Sheet" "right" "[I" "NetSearch", .fieldLinkNest "NetSearch" 226 "NetSearch$Sheet" "up" "[I" "NetSearch", .fieldLinkNest "NetSearch" 117 "NetSearch$Face" "cube" "I" "NetSearch", .fieldLinkNest "NetSearch" 120 "NetSearch$Face" "way" "I" "NetSearch", .fieldLinkNest "NetSearch" 129 "NetSearch$Face" "across" "[I" "NetSearch", .fieldLinkNest "NetSearch" 166 "NetSearch$Face" "turned" "[I" "NetSearch", .fieldLinkNest "NetSearch" 104 "NetSearch$Way" "x" "I" "NetSearch", .fieldLinkNest "NetSearch" 107 "NetSearch$Way" "y" "I" "NetSearch", .fieldLinkNest "NetSearch" 110 "NetSearch$Way" "z" "I" "NetSearch", .fieldLinkNest "NetSearch$Sheet" 55 "NetSearch$Face" "way" "I" "NetSearch", .fieldLinkNest "NetSearch$Sheet" 64 "NetSearch$Face" "across" "[I" "NetSearch", .fieldLinkNest "NetSearch$Sheet" 70 "NetSearch$Face" "turned" "[I" "NetSearch"]
def NW (U : State) : Prop := ∀ (i : Nat) (w : Cond), nwL[i]? = some w → va_Nw w U
def wyX (j : Nat) : Int32 := [1, -1, 0, 0, 0, 0].getD j 0
def wyY (j : Nat) : Int32 := [0, 0, 1, -1, 0, 0].getD j 0
def wyZ (j : Nat) : Int32 := [0, 0, 0, 0, 1, -1].getD j 0
/-- what the tables and the constants give all through a run -/
def XK (t : Nat) (E : XE) (U : State) : Prop :=
  (∀ (c : Nat) (q : vw_C), clL[c]? = some q → u_Kn U q.1 q.2.1 q.2.2 (E.1.1 c) (E.1.2 c)) ∧
  (ArrOfT U (E.2.2.1 0) .int ∧ ArrOfT U (E.2.2.1 1) .boolean ∧ ArrOfT U (E.2.2.1 2) .long ∧ ArrOfT U (E.2.2.1 3) (.object "NetSearch$Face") ∧ ArrOfT U (E.2.2.1 4) (.array .int) ∧ ArrOfT U (E.2.2.1 5) (.array .long) ∧ ArrOfT U (E.2.2.1 6) (.object "NetSearch$Way")) ∧
  (∃ (k : Class) (comp : ClassId) (kc kv : Class), U.vm.classes[E.2.2.1 5]? = some k ∧ k.kind = .array comp (.array .long) ∧ U.vm.classes[comp]? = some kc ∧ U.vm.classes[E.2.2.1 2]? = some kv ∧ U.vm.assignable (E.2.2.1 2) comp = true) ∧
  (∀ j, j < 6 → va_OF "NetSearch$Way" "x" "I" (.int (wyX j)) (E.2.2.2 j) (XA t E) U U.heap ∧ va_OF "NetSearch$Way" "y" "I" (.int (wyY j)) (E.2.2.2 j) (XA t E) U U.heap ∧ va_OF "NetSearch$Way" "z" "I" (.int (wyZ j)) (E.2.2.2 j) (XA t E) U U.heap) ∧ NW U
theorem NW.warm {s U : State} (hW : s.WarmedH U.vm) (h : NW s) : NW U := by
  intro i w hw
  have hz := h i w hw
  match i, hw with
  | 0, hw => cases hw; exact va_Nw.warmF hW hz
  | 1, hw => cases hw; exact va_Nw.warmF hW hz
  | 2, hw => cases hw; exact va_Nw.warmF hW hz
  | 3, hw => cases hw; exact va_Nw.warmF hW hz
  | 4, hw => cases hw; exact va_Nw.warmF hW hz
  | 5, hw => cases hw; exact va_Nw.warmF hW hz
  | 6, hw => cases hw; exact va_Nw.warmF hW hz
  | 7, hw => cases hw; exact va_Nw.warmF hW hz
  | 8, hw => cases hw; exact va_Nw.warmF hW hz
  | 9, hw => cases hw; exact va_Nw.warmF hW hz
  | 10, hw => cases hw; exact va_Nw.warmF hW hz
  | 11, hw => cases hw; exact va_Nw.warmF hW hz
  | 12, hw => cases hw; exact va_Nw.warmF hW hz
  | 13, hw => cases hw; exact va_Nw.warmF hW hz
  | 14, hw => cases hw; exact va_Nw.warmF hW hz
  | 15, hw => cases hw; exact va_Nw.warmF hW hz
  | 16, hw => cases hw; exact va_Nw.warmF hW hz
  | i + 17, hw => cases hw
theorem XK.moved {t : Nat} {E : XE} {s U : State} (h : XK t E s) (hW : s.WarmedH U.vm) (hq : ∀ q : Nat, ¬ XA t E q → U.heap[q]? = s.heap[q]?) : XK t E U := by
  have hvm := hW.alike
  obtain ⟨h1, ⟨a0, a1, a2, a3, a4, a5, a6⟩, ⟨k, comp, kc, kv, b1, b2, b3, b4, b5⟩, h3, h4⟩ := h
  refine ⟨fun c q hc => u_Kn_moved hvm (h1 c q hc), ⟨arrOfT_moved hvm a0, arrOfT_moved hvm a1, arrOfT_moved hvm a2, arrOfT_moved hvm a3, arrOfT_moved hvm a4, arrOfT_moved hvm a5, arrOfT_moved hvm a6⟩, ?_, fun j hj => ?_, h4.warm hW⟩
  · obtain ⟨k', c1, c2⟩ := hvm.2.2 _ _ b1
    obtain ⟨kc', d1, d2⟩ := hvm.2.2 _ _ b3
    obtain ⟨kv', e1, e2⟩ := hvm.2.2 _ _ b4
    exact ⟨k', comp, kc', kv', c1, by rw [c2]; exact b2, d1, e1, by rw [hvm.assignable]; exact b5⟩
  · obtain ⟨x, y, z⟩ := h3 j hj
    exact ⟨va_OF.kept (va_OF.moved hvm x) (fun a _ ha => hq a ha), va_OF.kept (va_OF.moved hvm y) (fun a _ ha => hq a ha), va_OF.kept (va_OF.moved hvm z) (fun a _ ha => hq a ha)⟩
theorem XK.calling {t : Nat} {E : XE} {U : State} (h : XK t E U) (g : JFrame) (mk : MethodId) (a : Array Value) : XK t E (U.calling g mk a) := by
  obtain ⟨h1, ⟨a0, a1, a2, a3, a4, a5, a6⟩, h2, h3, h4⟩ := h
  have hvm : U.vm.Alike (U.calling g mk a).vm := Vm.Alike.refl U.vm
  refine ⟨fun c q hc => u_Kn_moved hvm (h1 c q hc), ⟨arrOfT_moved hvm a0, arrOfT_moved hvm a1, arrOfT_moved hvm a2, arrOfT_moved hvm a3, arrOfT_moved hvm a4, arrOfT_moved hvm a5, arrOfT_moved hvm a6⟩, h2, fun j hj => ?_, fun i w hw => va_Nw.same (u := U) (U := U.calling g mk a) ?_ rfl (h4 i w hw)⟩
  · obtain ⟨x, y, z⟩ := h3 j hj
    exact ⟨va_OF.moved hvm x, va_OF.moved hvm y, va_OF.moved hvm z⟩
  · have hall : nwL.all (fun w => w.onTables) = true := by decide +kernel
    exact List.all_eq_true.mp hall w (List.mem_of_getElem? hw)
/-- a method's start and end -/
def XPre (t : Nat) (E : XE) (av : List Value) (M : Mem) : Array Value → State → Prop := fun v U => v = av.toArray ∧ XK t E U ∧ XP t E M U.heap
def XPost (t : Nat) (E : XE) (r : Option Value) (M : Mem) : Array Value → State → Outcome → State → Prop := fun _ st oc u => oc = .returned r ∧ XP t E M u.heap ∧ u.heap.size = st.heap.size ∧ ∀ q : Nat, ¬ XA t E q → u.heap[q]? = st.heap[q]?
theorem XPre.blind {t : Nat} {E : XE} {av : List Value} {M : Mem} : FrameBlind (XPre t E av M) := fun a U g mk h => ⟨h.1, h.2.1.calling g mk a, h.2.2⟩
/-- what holds all through a method -/
def XC (t : Nat) (p : Program) (s : State) (m : MethodId) (args : Array Value) (meth : Method) (c : Code) (cc : ByteArray) (nL : Nat) (own : String) (ret : Option FieldType) (E : XE) : Prop :=
  p.tables.exec = Jvm.exec ∧ c.code = cc ∧ c.maxLocals = nL ∧ s.vm.findClass own = some m.cls ∧ (∀ w ∈ lw_all, w.before args s = true) ∧ meth.sig.returnType = ret ∧ meth.locks = false ∧ XK t E s
theorem XS.rf {t : Nat} {E : XE} {H : Heap} : XS t E H H [] := ⟨rfl, fun _ _ => rfl, fun _ h => by cases h⟩
theorem XS.put {t : Nat} {E : XE} {H0 H H1 : Heap} {locs : List Loc} {a k : Nat} (h : XS t E H0 H locs) (z : H1.size = H.size) (oq : ∀ q : Nat, q ≠ a → H1[q]? = H[q]?) (ha : XA t E a) : XS t E H0 H1 (locs ++ [⟨a, k⟩]) := by
  refine ⟨z.trans h.1, fun q h2 => ?_, fun q hq => ?_⟩
  · rw [oq q (fun e => h2 (by rw [e]; exact ha))]
    exact h.2.1 q h2
  · rcases List.mem_append.mp hq with h1 | h1
    · exact h.2.2 q h1
    · rw [List.mem_singleton.mp h1]
      exact ha
/-- one cell's ints have changed -/
theorem XP.seti {t : Nat} {E : XE} {M M1 : Mem} {H H1 : Heap} {k : Nat} (h : XP t E M H) (hk : kd t k ≠ 0) (oq : ∀ q : Nat, q ≠ E.2.1 k → H1[q]? = H[q]?) (hc : va_at E.1 clL (E.2.1 k, cw t E k (M1.1 k) (M.2.1 k) M.2.2) H1) (e : ∀ b, b ≠ k → M1.1 b = M.1 b) (e2 : M1.2 = M.2) : XP t E M1 H1 := by
  refine ⟨h.1, fun j hj => ?_, by rw [e2]; exact h.2.2⟩
  by_cases hjk : j = k
  · subst hjk
    rw [e2]; exact hc
  · rw [e j hjk, e2]
    exact (h.2.1 j hj).kept (oq _ (fun z => hjk (h.1 j k hj hk z)))
theorem XP.setl {t : Nat} {E : XE} {M M1 : Mem} {H H1 : Heap} {k : Nat} (h : XP t E M H) (hk : kd t k ≠ 0) (oq : ∀ q : Nat, q ≠ E.2.1 k → H1[q]? = H[q]?) (hc : va_at E.1 clL (E.2.1 k, cw t E k (M.1 k) (M1.2.1 k) M.2.2) H1) (e : ∀ b, b ≠ k → M1.2.1 b = M.2.1 b) (e1 : M1.1 = M.1) (e2 : M1.2.2 = M.2.2) : XP t E M1 H1 := by
  refine ⟨h.1, fun j hj => ?_, by rw [e2]; exact h.2.2⟩
  by_cases hjk : j = k
  · subst hjk
    rw [e2, e1]; exact hc
  · rw [e j hjk, e2, e1]
    exact (h.2.1 j hj).kept (oq _ (fun z => hjk (h.1 j k hj hk z)))
theorem kd_ne {t k n : Nat} (h : kd t k = n) (hn : n ≠ 0) : kd t k ≠ 0 := by rw [h]; exact hn
def inB (i : Int32) (n : Nat) : Bool := decide (¬ (i < 0 ∨ n ≤ i.toNatClampNeg))
theorem inB_in {i : Int32} {n : Nat} (h : inB i n = true) : vp_in i n := by
  unfold inB at h
  have h := of_decide_eq_true h
  exact h
theorem inB_lt {i : Int32} {n : Nat} (h : inB i n = true) : i.toNatClampNeg < n := Nat.not_le.mp fun q => inB_in h (Or.inr q)
/-- bounds, calls, names, branches of the methods' functions, and how a walk takes them apart -/
def gd {α : Type} (b : Bool) (x : Option α) : Option α := if b = true then x else none
theorem gd_el {α : Type} {b : Bool} {x : Option α} {r : α} (h : gd b x = some r) : b = true ∧ x = some r := by
  unfold gd at h
  split at h
  · exact ⟨by assumption, h⟩
  · cases h
theorem gd_t {α : Type} {b : Bool} {x : Option α} (h : b = true) : gd b x = x := if_pos h
def bd {α β : Type} (o : Option (α × Mem)) (k : α → Mem → Option β) : Option β := match o with
  | some q => k q.1 q.2
  | none => none
theorem bd_el {α β : Type} {o : Option (α × Mem)} {k : α → Mem → Option β} {r : β} (h : bd o k = some r) : ∃ a M1, o = some (a, M1) ∧ k a M1 = some r := by
  cases o with
  | none => cases h
  | some q => exact ⟨q.1, q.2, rfl, h⟩
theorem bd_s {α β : Type} {o : Option (α × Mem)} {k : α → Mem → Option β} {a : α} {M1 : Mem} (h : o = some (a, M1)) : bd o k = k a M1 := by rw [h]; rfl
def nm {α β : Type} (x : α) (k : α → Option β) : Option β := k x
theorem nm_el {α β : Type} {x : α} {k : α → Option β} {r : β} (h : nm x k = some r) : ∃ y, y = x ∧ k y = some r := ⟨x, rfl, h⟩
theorem br_el {α : Type} {c : Prop} [Decidable c] {x y : Option α} {r : α} (h : (if c then x else y) = some r) : (c → x = some r) ∧ (¬ c → y = some r) := ⟨fun hc => by rw [if_pos hc] at h; exact h, fun hc => by rw [if_neg hc] at h; exact h⟩
/-- the loops' fuel: a number that nobody unfolds -/
def FU : Nat := 1000000000
end
section
set_option maxRecDepth 100000
/-! THE ROWS OF THE WORLDS: one instruction each -/
section XROWS
variable {p : Program} {l : Launch} {e : Env} {R : Room} {s : State} {m : MethodId} {args : Array Value} {below : List Frame} {meth : Method} {c : Code} {H : Heap} {locs : List Loc} {cells slots : Nat} {Q : State → Prop}
variable {t nL pc : Nat} {cc : ByteArray} {own : String} {ret : Option FieldType} {E : XE} {M : Mem} {ls : Array Slot} {rest : List Value}
theorem cw1 {k : Nat} {a : Nat → Int32} {g : Nat → Int64} {P : Nat → Nat} (h : kd t k = 1) : cw t E k a g P = .inr (0, fsX E.2.1 a) := by unfold cw; rw [h]
theorem cw2 {k : Nat} {a : Nat → Int32} {g : Nat → Int64} {P : Nat → Nat} (h : kd t k = 2) : cw t E k a g P = .inr (1, fsS E.2.1 k a) := by unfold cw; rw [h]
theorem cw3 {k : Nat} {a : Nat → Int32} {g : Nat → Int64} {P : Nat → Nat} (h : kd t k = 3) : cw t E k a g P = .inr (2, fsF E.2.1 k a) := by unfold cw; rw [h]
theorem cw4 {k : Nat} {a : Nat → Int32} {g : Nat → Int64} {P : Nat → Nat} (h : kd t k = 4) : cw t E k a g P = .inl (E.2.2.1 0, ln t k, .inl a) := by unfold cw; rw [h]
theorem cw5 {k : Nat} {a : Nat → Int32} {g : Nat → Int64} {P : Nat → Nat} (h : kd t k = 5) : cw t E k a g P = .inl (E.2.2.1 1, ln t k, .inl a) := by unfold cw; rw [h]
theorem cw6 {k : Nat} {a : Nat → Int32} {g : Nat → Int64} {P : Nat → Nat} (h : kd t k = 6) : cw t E k a g P = .inl (E.2.2.1 2, ln t k, .inr (.inl g)) := by unfold cw; rw [h]
theorem cw7 {k : Nat} {a : Nat → Int32} {g : Nat → Int64} {P : Nat → Nat} (h : kd t k = 7) : cw t E k a g P = .inl (E.2.2.1 3, 22, .inr (.inr (.inr (.inr (fun j => some (E.2.1 (100 + j))))))) := by unfold cw; rw [h]
theorem cw8 {k : Nat} {a : Nat → Int32} {g : Nat → Int64} {P : Nat → Nat} (h : kd t k = 8) : cw t E k a g P = .inl (E.2.2.1 4, 64, .inr (.inr (.inr (.inr (fun j => some (E.2.1 (500 + j))))))) := by unfold cw; rw [h]
theorem cw9 {k : Nat} {a : Nat → Int32} {g : Nat → Int64} {P : Nat → Nat} (h : kd t k = 9) : cw t E k a g P = .inl (E.2.2.1 5, 22, .inr (.inr (.inr (.inr (fun j => some (E.2.1 (400 + P j))))))) := by unfold cw; rw [h]
theorem cw10 {k : Nat} {a : Nat → Int32} {g : Nat → Int64} {P : Nat → Nat} (h : kd t k = 10) : cw t E k a g P = .inl (E.2.2.1 6, 6, .inr (.inr (.inr (.inr (fun j => some (E.2.2.2 j)))))) := by unfold cw; rw [h]
theorem cw11 {k : Nat} {a : Nat → Int32} {g : Nat → Int64} {P : Nat → Nat} (h : kd t k = 11) : cw t E k a g P = .inr (3, fsM E.2.1 a) := by unfold cw; rw [h]
theorem XI.at {k : Nat} {x : va_E} (hI : XI t E s H locs M) (hk : kd t k ≠ 0) (he : cw t E k (M.1 k) (M.2.1 k) M.2.2 = x) : va_at E.1 clL (E.2.1 k, x) H := by rw [← he]; exact hI.1.2.1 k hk
theorem XI.A {k : Nat} (hk : kd t k ≠ 0) : XA t E (E.2.1 k) := ⟨k, hk, rfl⟩
theorem XI.P1 {k : Nat} {x : va_E} (hI : XI t E s H locs M) (hk : kd t k ≠ 0) (he : cw t E k (M.1 k) (M.2.1 k) M.2.2 = x) : va_P E.1 clL [(E.2.1 k, x)] H := by
  intro i q h
  match i, h with
  | 0, h => cases h; exact hI.at hk he
  | i + 1, h => cases h
theorem XK.K0 (hK : XK t E s) : va_K E.1 clL [] s := ⟨hK.1, fun k q h => by cases h⟩
/-- a field, by a link of the tables -/
theorem xr_get (C : XC t p s m args meth c cc nL own ret E) (hI : XI t E s H locs M) {k ci : Nat} {fs : List Value} (hk : kd t k ≠ 0) (he : cw t E k (M.1 k) (M.2.1 k) M.2.2 = .inr (ci, fs)) {Cn : String} {T : u_T} {N : Nat} (hc : clL[ci]? = some (Cn, T, N)) (hin : ∀ w ∈ u_ws Cn T N, w ∈ lw_all) (j : Nat) (hj : j < N) {index : Nat} (hlink : Cond.fieldLink own index (T j).1 (T j).2.1 (T j).2.2.1 ∈ lw_all) {v : Value} (hv : fs[j]? = some v) (hdg : decode cc pc = .ok (.getfield index, 3))
    (kk : W p l e R s m args below meth c H locs cells slots Q (F0 m (pc + 3) ls (v :: rest))) : W p l e R s m args below meth c H locs cells slots Q (F0 m pc ls (.ref (E.2.1 k) :: rest)) := by
  obtain ⟨hx, hb, -, hown, hts, -, -, hK⟩ := C
  exact va_get hx hb hts hin hown hK.K0 (hI.P1 hk he) 0 rfl hc j hj (hts _ hlink) (fun _ h => h) hv hdg kk
/-- a field of a nest mate -/
theorem xr_getN (C : XC t p s m args meth c cc nL own ret E) (hI : XI t E s H locs M) {k ci : Nat} {fs : List Value} (hk : kd t k ≠ 0) (he : cw t E k (M.1 k) (M.2.1 k) M.2.2 = .inr (ci, fs)) {Cn : String} {T : u_T} {N : Nat} (hc : clL[ci]? = some (Cn, T, N)) (hin : ∀ w ∈ u_ws Cn T N, w ∈ lw_all) (j : Nat) (hj : j < N) {index : Nat} (i : Nat) (hlink : nwL[i]? = some (Cond.fieldLinkNest own index (T j).1 (T j).2.1 (T j).2.2.1 "NetSearch")) {v : Value} (hv : fs[j]? = some v) (hdg : decode cc pc = .ok (.getfield index, 3))
    (kk : W p l e R s m args below meth c H locs cells slots Q (F0 m (pc + 3) ls (v :: rest))) : W p l e R s m args below meth c H locs cells slots Q (F0 m pc ls (.ref (E.2.1 k) :: rest)) := by
  obtain ⟨hx, hb, -, hown, hts, -, -, hK⟩ := C
  exact va_getN hx hb hts hin hown hK.K0 (hI.P1 hk he) 0 rfl hc j hj (va_Nw.use rfl (hK.2.2.2.2 i _ hlink)) (fun _ h => h) hv hdg kk
theorem XI.seti {k : Nat} {M1 : Mem} {H1 : Heap} {i : Nat} (hI : XI t E s H locs M) (hk : kd t k ≠ 0) (oq : ∀ q : Nat, q ≠ E.2.1 k → H1[q]? = H[q]?) (z : H1.size = H.size) (hc : va_at E.1 clL (E.2.1 k, cw t E k (M1.1 k) (M.2.1 k) M.2.2) H1) (e1 : ∀ b, b ≠ k → M1.1 b = M.1 b) (e2 : M1.2 = M.2) : XI t E s H1 (locs ++ [⟨E.2.1 k, i⟩]) M1 :=
  ⟨hI.1.seti hk oq hc e1 e2, hI.2.put z oq (XI.A hk)⟩
/-- an int field is written -/
theorem xr_put (C : XC t p s m args meth c cc nL own ret E) (hI : XI t E s H locs M) {k ci : Nat} {fs : (Nat → Int32) → List Value} (hk : kd t k ≠ 0) (he : ∀ a, cw t E k a (M.2.1 k) M.2.2 = .inr (ci, fs a)) {Cn : String} {T : u_T} {N : Nat} (hc : clL[ci]? = some (Cn, T, N)) (hin : ∀ w ∈ u_ws Cn T N, w ∈ lw_all) {ty0 : Nat → FieldType} (hty : ∀ k, k < N → parseFieldDescriptor (T k).2.2.1 = some (ty0 k)) (hnm : ∀ a, a < N → ∀ b, b < N → a ≠ b → (T a).2.1 ≠ (T b).2.1) (j : Nat) (hj : j < N) {index : Nat} (hlink : Cond.fieldLink own index (T j).1 (T j).2.1 (T j).2.2.1 ∈ lw_all) {v : Int32} {ty : FieldType} (hfin : (T j).2.2.2 = false) (hd : ty0 j = ty) (hn : narrow ty (.int v) = .int v) (hf : fits ty (.int v) = true) (hlen : j < (fs (M.1 k)).length) (hset : (fs (M.1 k)).set j (.int v) = fs (va_up (M.1 k) j v)) (hdg : decode cc pc = .ok (.putfield index, 3))
    (kk : ∀ (H1 : Heap) (locs1 : List Loc), XI t E s H1 locs1 (up2 M.1 k j v, M.2) → W p l e R s m args below meth c H1 locs1 cells slots Q (F0 m (pc + 3) ls rest)) : W p l e R s m args below meth c H locs cells slots Q (F0 m pc ls (.int v :: .ref (E.2.1 k) :: rest)) := by
  obtain ⟨hx, hb, -, hown, hts, -, -, hK⟩ := C
  have hap := va_apart (own := own) hts hin ty0 hty hnm hK.K0 hc
  obtain ⟨r, h1, cell, q1, q2, q3, q4⟩ := hI.at hk (he (M.1 k))
  have hr : r = (Cn, T, N) := Option.some.inj (h1.symm.trans hc)
  subst hr
  obtain ⟨hS, hfc, kC, hkC, hkind⟩ := hK.1 ci _ hc
  obtain ⟨cf, kf, fi, f, hi, hsl⟩ := hS j hj
  have hlay := hts _ (hin _ (u_in_lay hj))
  unfold u_lay at hlay
  rw [if_neg (by rw [hfin]; decide)] at hlay
  have hst := (u_facts hfc hkC (u_lays hts hin hj) hi).1
  have h6 := u_store hfc hkC hkind hlay hi ((hty j hj).trans (by rw [hd])) hn hf
  refine W.putK hx hb (f := f) ⟨hown, hts _ hlink, ⟨_, _, _, hi⟩, hst⟩ (by rw [q2]; exact h6) q1 q3 (by rw [hsl]; exact k2_hasslot (q4 j hj)) rfl rfl hdg fun H' e1 e2 e3 => ?_
  rw [hsl] at e1 ⊢
  refine kk H' _ (hI.seti hk e3 e2 ?_ (fun b hb => up2_n _ _ _ hb) rfl)
  rw [up2_s, he, ← hset]
  exact ⟨_, hc, t_OB.to (V := updV (vp_V (fs (M.1 k))) j (.int v)) ⟨_, e1, q2, q3, t_set q4 hap hj (.int v)⟩ (fun i _ => vp_updV_set hlen _ i)⟩
theorem xr_putN (C : XC t p s m args meth c cc nL own ret E) (hI : XI t E s H locs M) {k ci : Nat} {fs : (Nat → Int32) → List Value} (hk : kd t k ≠ 0) (he : ∀ a, cw t E k a (M.2.1 k) M.2.2 = .inr (ci, fs a)) {Cn : String} {T : u_T} {N : Nat} (hc : clL[ci]? = some (Cn, T, N)) (hin : ∀ w ∈ u_ws Cn T N, w ∈ lw_all) {ty0 : Nat → FieldType} (hty : ∀ k, k < N → parseFieldDescriptor (T k).2.2.1 = some (ty0 k)) (hnm : ∀ a, a < N → ∀ b, b < N → a ≠ b → (T a).2.1 ≠ (T b).2.1) (j : Nat) (hj : j < N) {index : Nat} (i : Nat) (hlink : nwL[i]? = some (Cond.fieldLinkNest own index (T j).1 (T j).2.1 (T j).2.2.1 "NetSearch")) {v : Int32} {ty : FieldType} (hfin : (T j).2.2.2 = false) (hd : ty0 j = ty) (hn : narrow ty (.int v) = .int v) (hf : fits ty (.int v) = true) (hlen : j < (fs (M.1 k)).length) (hset : (fs (M.1 k)).set j (.int v) = fs (va_up (M.1 k) j v)) (hdg : decode cc pc = .ok (.putfield index, 3))
    (kk : ∀ (H1 : Heap) (locs1 : List Loc), XI t E s H1 locs1 (up2 M.1 k j v, M.2) → W p l e R s m args below meth c H1 locs1 cells slots Q (F0 m (pc + 3) ls rest)) : W p l e R s m args below meth c H locs cells slots Q (F0 m pc ls (.int v :: .ref (E.2.1 k) :: rest)) := by
  obtain ⟨hx, hb, -, hown, hts, -, -, hK⟩ := C
  have hap := va_apart (own := own) hts hin ty0 hty hnm hK.K0 hc
  obtain ⟨r, h1, cell, q1, q2, q3, q4⟩ := hI.at hk (he (M.1 k))
  have hr : r = (Cn, T, N) := Option.some.inj (h1.symm.trans hc)
  subst hr
  obtain ⟨hS, hfc, kC, hkC, hkind⟩ := hK.1 ci _ hc
  obtain ⟨cf, kf, fi, f, hi, hsl⟩ := hS j hj
  have hlay := hts _ (hin _ (u_in_lay hj))
  unfold u_lay at hlay
  rw [if_neg (by rw [hfin]; decide)] at hlay
  have hst := (u_facts hfc hkC (u_lays hts hin hj) hi).1
  have h6 := u_store hfc hkC hkind hlay hi ((hty j hj).trans (by rw [hd])) hn hf
  refine va_WputK hx hb (f := f) hown (va_Nw.use rfl (hK.2.2.2.2 i _ hlink)) hi hst (by rw [q2]; exact h6) q1 q3 (by rw [hsl]; exact k2_hasslot (q4 j hj)) rfl rfl hdg fun H' e1 e2 e3 => ?_
  rw [hsl] at e1 ⊢
  refine kk H' _ (hI.seti hk e3 e2 ?_ (fun b hb => up2_n _ _ _ hb) rfl)
  rw [up2_s, he, ← hset]
  exact ⟨_, hc, t_OB.to (V := updV (vp_V (fs (M.1 k))) j (.int v)) ⟨_, e1, q2, q3, t_set q4 hap hj (.int v)⟩ (fun i _ => vp_updV_set hlen _ i)⟩
/-- arrays of ints, booleans, longs: a read -/
theorem xr_ial (C : XC t p s m args meth c cc nL own ret E) (hI : XI t E s H locs M) {k n : Nat} (hk : kd t k = 4) (hn : ln t k = n) {i : Int32} (hin : inB i n = true) (hdg : decode cc pc = .ok (.iaload, 1))
    (kk : W p l e R s m args below meth c H locs cells slots Q (F0 m (pc + 1) ls (.int (M.1 k i.toNatClampNeg) :: rest))) : W p l e R s m args below meth c H locs cells slots Q (F0 m pc ls (.int i :: .ref (E.2.1 k) :: rest)) := by
  obtain ⟨hx, hb, -, hown, hts, -, -, hK⟩ := C
  subst hn
  have hlt := inB_lt hin
  exact W.iald (v := .int (M.1 k i.toNatClampNeg)) hx hb (hI.at (kd_ne hk (by decide)) (cw4 hk)) (hK.2.1.1 _ (fun j => .int (M.1 k j))) (fun q => by cases q) (by show ¬ (i < 0 ∨ (arrV _ _ _).slots.size ≤ _); rw [arrV_size]; exact inB_in hin) (by show (arrV _ _ _).slots[_]? = _; rw [arrV_read _ _ hlt]) rfl rfl hdg kk
theorem xr_zal (C : XC t p s m args meth c cc nL own ret E) (hI : XI t E s H locs M) {k n : Nat} (hk : kd t k = 5) (hn : ln t k = n) {i : Int32} (hin : inB i n = true) (hdg : decode cc pc = .ok (.baload, 1))
    (kk : W p l e R s m args below meth c H locs cells slots Q (F0 m (pc + 1) ls (.int (M.1 k i.toNatClampNeg) :: rest))) : W p l e R s m args below meth c H locs cells slots Q (F0 m pc ls (.int i :: .ref (E.2.1 k) :: rest)) := by
  obtain ⟨hx, hb, -, hown, hts, -, -, hK⟩ := C
  subst hn
  have hlt := inB_lt hin
  exact W.zald (v := .int (M.1 k i.toNatClampNeg)) hx hb (hI.at (kd_ne hk (by decide)) (cw5 hk)) (hK.2.1.2.1 _ (fun j => .int (M.1 k j))) (fun q => by cases q) (by show ¬ (i < 0 ∨ (arrV _ _ _).slots.size ≤ _); rw [arrV_size]; exact inB_in hin) (by show (arrV _ _ _).slots[_]? = _; rw [arrV_read _ _ hlt]) rfl rfl hdg kk
theorem xr_lal (C : XC t p s m args meth c cc nL own ret E) (hI : XI t E s H locs M) {k n : Nat} (hk : kd t k = 6) (hn : ln t k = n) {i : Int32} (hin : inB i n = true) (hdg : decode cc pc = .ok (.laload, 1))
    (kk : W p l e R s m args below meth c H locs cells slots Q (F0 m (pc + 1) ls (.long (M.2.1 k i.toNatClampNeg) :: rest))) : W p l e R s m args below meth c H locs cells slots Q (F0 m pc ls (.int i :: .ref (E.2.1 k) :: rest)) := by
  obtain ⟨hx, hb, -, hown, hts, -, -, hK⟩ := C
  subst hn
  have hlt := inB_lt hin
  exact W.lald (v := .long (M.2.1 k i.toNatClampNeg)) hx hb (hI.at (kd_ne hk (by decide)) (cw6 hk)) (hK.2.1.2.2.1 _ (fun j => .long (M.2.1 k j))) (fun q => by cases q) (by show ¬ (i < 0 ∨ (arrV _ _ _).slots.size ≤ _); rw [arrV_size]; exact inB_in hin) (by show (arrV _ _ _).slots[_]? = _; rw [arrV_read _ _ hlt]) rfl rfl hdg kk
/-- arrays of references: the faces, the shapes, the rows, the ways -/
theorem xr_aaF (C : XC t p s m args meth c cc nL own ret E) (hI : XI t E s H locs M) {k : Nat} (hk : kd t k = 7) {i : Int32} (hin : inB i 22 = true) (hdg : decode cc pc = .ok (.aaload, 1))
    (kk : W p l e R s m args below meth c H locs cells slots Q (F0 m (pc + 1) ls (.ref (E.2.1 (100 + i.toNatClampNeg)) :: rest))) : W p l e R s m args below meth c H locs cells slots Q (F0 m pc ls (.int i :: .ref (E.2.1 k) :: rest)) := by
  obtain ⟨hx, hb, -, hown, hts, -, -, hK⟩ := C
  have hlt := inB_lt hin
  exact W.aald (v := .ref (E.2.1 (100 + i.toNatClampNeg))) (ty := .object "NetSearch$Face") hx hb (hI.at (kd_ne hk (by decide)) (cw7 hk)) (hK.2.1.2.2.2.1 _ (fun j => va_rf (some (E.2.1 (100 + j))))) rfl (fun q => by cases q) (by show ¬ (i < 0 ∨ (arrV _ _ _).slots.size ≤ _); rw [arrV_size]; exact inB_in hin) (by show (arrV _ _ _).slots[_]? = _; rw [arrV_read _ _ hlt]; rfl) rfl rfl hdg kk
theorem xr_aaS (C : XC t p s m args meth c cc nL own ret E) (hI : XI t E s H locs M) {k : Nat} (hk : kd t k = 8) {i : Int32} (hin : inB i 64 = true) (hdg : decode cc pc = .ok (.aaload, 1))
    (kk : W p l e R s m args below meth c H locs cells slots Q (F0 m (pc + 1) ls (.ref (E.2.1 (500 + i.toNatClampNeg)) :: rest))) : W p l e R s m args below meth c H locs cells slots Q (F0 m pc ls (.int i :: .ref (E.2.1 k) :: rest)) := by
  obtain ⟨hx, hb, -, hown, hts, -, -, hK⟩ := C
  have hlt := inB_lt hin
  exact W.aald (v := .ref (E.2.1 (500 + i.toNatClampNeg))) (ty := .array .int) hx hb (hI.at (kd_ne hk (by decide)) (cw8 hk)) (hK.2.1.2.2.2.2.1 _ (fun j => va_rf (some (E.2.1 (500 + j))))) rfl (fun q => by cases q) (by show ¬ (i < 0 ∨ (arrV _ _ _).slots.size ≤ _); rw [arrV_size]; exact inB_in hin) (by show (arrV _ _ _).slots[_]? = _; rw [arrV_read _ _ hlt]; rfl) rfl rfl hdg kk
theorem xr_aaR (C : XC t p s m args meth c cc nL own ret E) (hI : XI t E s H locs M) {k : Nat} (hk : kd t k = 9) {i : Int32} (hin : inB i 22 = true) (hdg : decode cc pc = .ok (.aaload, 1))
    (kk : W p l e R s m args below meth c H locs cells slots Q (F0 m (pc + 1) ls (.ref (E.2.1 (400 + M.2.2 i.toNatClampNeg)) :: rest))) : W p l e R s m args below meth c H locs cells slots Q (F0 m pc ls (.int i :: .ref (E.2.1 k) :: rest)) := by
  obtain ⟨hx, hb, -, hown, hts, -, -, hK⟩ := C
  have hlt := inB_lt hin
  exact W.aald (v := .ref (E.2.1 (400 + M.2.2 i.toNatClampNeg))) (ty := .array .long) hx hb (hI.at (kd_ne hk (by decide)) (cw9 hk)) (hK.2.1.2.2.2.2.2.1 _ (fun j => va_rf (some (E.2.1 (400 + M.2.2 j))))) rfl (fun q => by cases q) (by show ¬ (i < 0 ∨ (arrV _ _ _).slots.size ≤ _); rw [arrV_size]; exact inB_in hin) (by show (arrV _ _ _).slots[_]? = _; rw [arrV_read _ _ hlt]; rfl) rfl rfl hdg kk
theorem xr_aaW (C : XC t p s m args meth c cc nL own ret E) (hI : XI t E s H locs M) {k : Nat} (hk : kd t k = 10) {i : Int32} (hin : inB i 6 = true) (hdg : decode cc pc = .ok (.aaload, 1))
    (kk : W p l e R s m args below meth c H locs cells slots Q (F0 m (pc + 1) ls (.ref (E.2.2.2 i.toNatClampNeg) :: rest))) : W p l e R s m args below meth c H locs cells slots Q (F0 m pc ls (.int i :: .ref (E.2.1 k) :: rest)) := by
  obtain ⟨hx, hb, -, hown, hts, -, -, hK⟩ := C
  have hlt := inB_lt hin
  exact W.aald (v := .ref (E.2.2.2 i.toNatClampNeg)) (ty := .object "NetSearch$Way") hx hb (hI.at (kd_ne hk (by decide)) (cw10 hk)) (hK.2.1.2.2.2.2.2.2 _ (fun j => va_rf (some (E.2.2.2 j)))) rfl (fun q => by cases q) (by show ¬ (i < 0 ∨ (arrV _ _ _).slots.size ≤ _); rw [arrV_size]; exact inB_in hin) (by show (arrV _ _ _).slots[_]? = _; rw [arrV_read _ _ hlt]; rfl) rfl rfl hdg kk
/-- a Way's x, y, z -/
theorem xr_way (C : XC t p s m args meth c cc nL own ret E) (hI : XI t E s H locs M) {j : Nat} {n : String} {v : Int32} (hO : va_OF "NetSearch$Way" n "I" (.int v) (E.2.2.2 j) (XA t E) s s.heap) {index : Nat} (i : Nat) (hlink : nwL[i]? = some (Cond.fieldLinkNest own index "NetSearch$Way" n "I" "NetSearch")) (hdg : decode cc pc = .ok (.getfield index, 3))
    (kk : W p l e R s m args below meth c H locs cells slots Q (F0 m (pc + 3) ls (.int v :: rest))) : W p l e R s m args below meth c H locs cells slots Q (F0 m pc ls (.ref (E.2.2.2 j) :: rest)) := by
  obtain ⟨hx, hb, -, hown, hts, -, -, hK⟩ := C
  obtain ⟨cf, k, fi, f, cell, h1, h2, h3, h4, h5, h6⟩ := hO
  exact va_Wgetf hx hb hown (va_Nw.use rfl (hK.2.2.2.2 i _ hlink)) h1 h2 (by rw [hI.2.2.1 _ h6]; exact h3) h4 h5 rfl rfl hdg kk
/-- lengths -/
theorem xr_len4 (C : XC t p s m args meth c cc nL own ret E) (hI : XI t E s H locs M) {k n : Nat} (hk : kd t k = 4) (hn : ln t k = n) (hdg : decode cc pc = .ok (.arraylength, 1))
    (kk : W p l e R s m args below meth c H locs cells slots Q (F0 m (pc + 1) ls (.int (nI n) :: rest))) : W p l e R s m args below meth c H locs cells slots Q (F0 m pc ls (.ref (E.2.1 k) :: rest)) := by
  obtain ⟨hx, hb, -, hown, hts, -, -, hK⟩ := C
  subst hn
  exact W.alen hx hb (hI.at (kd_ne hk (by decide)) (cw4 hk)) (hK.2.1.1 _ (fun j => .int (M.1 k j))) (by show (arrV _ _ _).slots.size.toInt32 = _; rw [arrV_size]; rfl) rfl rfl hdg kk
theorem xr_len6 (C : XC t p s m args meth c cc nL own ret E) (hI : XI t E s H locs M) {k n : Nat} (hk : kd t k = 6) (hn : ln t k = n) (hdg : decode cc pc = .ok (.arraylength, 1))
    (kk : W p l e R s m args below meth c H locs cells slots Q (F0 m (pc + 1) ls (.int (nI n) :: rest))) : W p l e R s m args below meth c H locs cells slots Q (F0 m pc ls (.ref (E.2.1 k) :: rest)) := by
  obtain ⟨hx, hb, -, hown, hts, -, -, hK⟩ := C
  subst hn
  exact W.alen hx hb (hI.at (kd_ne hk (by decide)) (cw6 hk)) (hK.2.1.2.2.1 _ (fun j => .long (M.2.1 k j))) (by show (arrV _ _ _).slots.size.toInt32 = _; rw [arrV_size]; rfl) rfl rfl hdg kk
theorem xr_lenW (C : XC t p s m args meth c cc nL own ret E) (hI : XI t E s H locs M) {k : Nat} (hk : kd t k = 10) (hdg : decode cc pc = .ok (.arraylength, 1))
    (kk : W p l e R s m args below meth c H locs cells slots Q (F0 m (pc + 1) ls (.int 6 :: rest))) : W p l e R s m args below meth c H locs cells slots Q (F0 m pc ls (.ref (E.2.1 k) :: rest)) := by
  obtain ⟨hx, hb, -, hown, hts, -, -, hK⟩ := C
  exact W.alen hx hb (hI.at (kd_ne hk (by decide)) (cw10 hk)) (hK.2.1.2.2.2.2.2.2 _ (fun j => va_rf (some (E.2.2.2 j)))) (by show (arrV _ _ _).slots.size.toInt32 = _; rw [arrV_size]; rfl) rfl rfl hdg kk
/-- arrays: a write -/
theorem xr_ias (C : XC t p s m args meth c cc nL own ret E) (hI : XI t E s H locs M) {k n : Nat} (hk : kd t k = 4) (hn : ln t k = n) {i v : Int32} (hin : inB i n = true) (hdg : decode cc pc = .ok (.iastore, 1))
    (kk : ∀ (H1 : Heap) (locs1 : List Loc), XI t E s H1 locs1 (up2 M.1 k i.toNatClampNeg v, M.2) → W p l e R s m args below meth c H1 locs1 cells slots Q (F0 m (pc + 1) ls rest)) : W p l e R s m args below meth c H locs cells slots Q (F0 m pc ls (.int v :: .int i :: .ref (E.2.1 k) :: rest)) := by
  obtain ⟨hx, hb, -, hown, hts, -, -, hK⟩ := C
  subst hn
  have hk0 := kd_ne hk (by decide)
  refine W.iast hx hb (hI.at hk0 (cw4 hk)) (hK.2.1.1 _ (fun j => .int (M.1 k j))) (fun q => by cases q) (by show ¬ (i < 0 ∨ (arrV _ _ _).slots.size ≤ _); rw [arrV_size]; exact inB_in hin) rfl rfl hdg fun H1 e z oq => ?_
  refine kk H1 _ (hI.seti hk0 oq z ?_ (fun b hb => up2_n _ _ _ hb) rfl)
  rw [up2_s, cw4 hk]
  show H1[E.2.1 k]? = some (vp_cell _ _)
  rw [e, vp_cell_i, vp_cell_i, arrV_store]
  congr 2
  funext q
  by_cases hq : q = i.toNatClampNeg <;> simp [updV, va_up, hq]
theorem xr_zas (C : XC t p s m args meth c cc nL own ret E) (hI : XI t E s H locs M) {k n : Nat} (hk : kd t k = 5) (hn : ln t k = n) {i v : Int32} (hin : inB i n = true) (hv : narrow .boolean (.int v) = .int v) (hdg : decode cc pc = .ok (.bastore, 1))
    (kk : ∀ (H1 : Heap) (locs1 : List Loc), XI t E s H1 locs1 (up2 M.1 k i.toNatClampNeg v, M.2) → W p l e R s m args below meth c H1 locs1 cells slots Q (F0 m (pc + 1) ls rest)) : W p l e R s m args below meth c H locs cells slots Q (F0 m pc ls (.int v :: .int i :: .ref (E.2.1 k) :: rest)) := by
  obtain ⟨hx, hb, -, hown, hts, -, -, hK⟩ := C
  subst hn
  have hk0 := kd_ne hk (by decide)
  refine W.zast hx hb (hI.at hk0 (cw5 hk)) (hK.2.1.2.1 _ (fun j => .int (M.1 k j))) (fun q => by cases q) (by show ¬ (i < 0 ∨ (arrV _ _ _).slots.size ≤ _); rw [arrV_size]; exact inB_in hin) rfl rfl hdg fun H1 e z oq => ?_
  refine kk H1 _ (hI.seti hk0 oq z ?_ (fun b hb => up2_n _ _ _ hb) rfl)
  rw [up2_s, cw5 hk]
  show H1[E.2.1 k]? = some (vp_cell _ _)
  rw [e, hv, vp_cell_i, vp_cell_i, arrV_store]
  congr 2
  funext q
  by_cases hq : q = i.toNatClampNeg <;> simp [updV, va_up, hq]
theorem xr_las (C : XC t p s m args meth c cc nL own ret E) (hI : XI t E s H locs M) {k n : Nat} (hk : kd t k = 6) (hn : ln t k = n) {i : Int32} {v : Int64} (hin : inB i n = true) (hdg : decode cc pc = .ok (.lastore, 1))
    (kk : ∀ (H1 : Heap) (locs1 : List Loc), XI t E s H1 locs1 (M.1, up2 M.2.1 k i.toNatClampNeg v, M.2.2) → W p l e R s m args below meth c H1 locs1 cells slots Q (F0 m (pc + 1) ls rest)) : W p l e R s m args below meth c H locs cells slots Q (F0 m pc ls (.long v :: .int i :: .ref (E.2.1 k) :: rest)) := by
  obtain ⟨hx, hb, -, hown, hts, -, -, hK⟩ := C
  subst hn
  have hk0 := kd_ne hk (by decide)
  refine W.last hx hb (hI.at hk0 (cw6 hk)) (hK.2.1.2.2.1 _ (fun j => .long (M.2.1 k j))) (fun q => by cases q) (by show ¬ (i < 0 ∨ (arrV _ _ _).slots.size ≤ _); rw [arrV_size]; exact inB_in hin) rfl rfl hdg fun H1 e z oq => ?_
  refine kk H1 _ ⟨hI.1.setl hk0 oq ?_ (fun b hb => up2_n _ _ _ hb) rfl rfl, hI.2.put z oq (XI.A hk0)⟩
  rw [up2_s, cw6 hk]
  show H1[E.2.1 k]? = some (vp_cell _ _)
  rw [e, vp_cell_l, vp_cell_l, arrV_store]
  congr 2
  funext q
  by_cases hq : q = i.toNatClampNeg <;> simp [updV, va_up, hq]
/-- rows[i] = the row of number r -/
theorem xr_aas (C : XC 0 p s m args meth c cc nL own ret E) (hI : XI 0 E s H locs M) {i : Int32} {r : Nat} (hr : r < 22) (hin : inB i 22 = true) (hdg : decode cc pc = .ok (.aastore, 1))
    (kk : ∀ (H1 : Heap) (locs1 : List Loc), XI 0 E s H1 locs1 (M.1, M.2.1, va_up M.2.2 i.toNatClampNeg r) → W p l e R s m args below meth c H1 locs1 cells slots Q (F0 m (pc + 1) ls rest)) : W p l e R s m args below meth c H locs cells slots Q (F0 m pc ls (.ref (E.2.1 (400 + r)) :: .int i :: .ref (E.2.1 10) :: rest)) := by
  obtain ⟨hx, hb, -, hown, hts, -, -, hK⟩ := C
  have hlt := inB_lt hin
  have h0 : ¬ i < 0 := fun q => inB_in hin (Or.inl q)
  have hk : kd 0 10 = 9 := rfl
  have hk0 : kd 0 10 ≠ 0 := kd_ne hk (by decide)
  have hk6 : kd 0 (400 + r) = 6 := by unfold kd; simp only [if_true]; rw [if_neg (by omega), if_neg (by omega), if_neg (by omega), if_neg (by omega), if_neg (by omega), if_neg (by omega), if_neg (by omega), if_pos (by omega)]
  obtain ⟨k, comp, kc, kv, b1, b2, b3, b4, b5⟩ := hK.2.2.1
  have hrow := hI.at (kd_ne hk6 (by decide)) (cw6 hk6)
  refine W.aast hx hb (hI.at hk0 (cw9 hk)) (fun q h => by cases h) (fun h => by cases h) b1 b2 rfl b3 ⟨h0, by show _ < (arrV _ _ _).slots.size; rw [arrV_size]; exact hlt⟩ hrow (fun q h => by cases h) b4 b5 rfl rfl hdg fun H1 e z oq => ?_
  refine kk H1 _ ⟨⟨hI.1.1, fun j hj => ?_, fun j hj => ?_⟩, hI.2.put z oq (XI.A hk0)⟩
  · by_cases hjk : j = 10
    · subst hjk
      rw [cw9 hk]
      show H1[E.2.1 10]? = some (vp_cell _ _)
      rw [e, vp_cell_q, vp_cell_q, arrV_store]
      congr 2
      funext q
      by_cases hq : q = i.toNatClampNeg
      · subst hq
        simp [updV, va_up, va_rf]
      · simp [updV, va_up, hq]
    · have e9 : cw 0 E j (M.1 j) (M.2.1 j) (va_up M.2.2 i.toNatClampNeg r) = cw 0 E j (M.1 j) (M.2.1 j) M.2.2 := by
        unfold cw
        split <;> first | rfl | skip
        exfalso
        rename_i h9
        unfold kd at h9
        simp only [if_true] at h9
        split at h9
        · rename_i hj1
          have : ∀ j, j < 100 → kdS.getD j 0 = 9 → j = 10 := by decide
          exact hjk (this j hj1 h9)
        · repeat (split at h9; · cases h9)
          cases h9
      show va_at E.1 clL (E.2.1 j, cw 0 E j (M.1 j) (M.2.1 j) (va_up M.2.2 i.toNatClampNeg r)) H1
      rw [e9]
      exact (hI.1.2.1 j hj).kept (oq _ (fun z => hjk (hI.1.1 j 10 hj hk0 z)))
  · show va_up M.2.2 i.toNatClampNeg r j < 22
    unfold va_up
    split
    · exact hr
    · exact hI.1.2.2 j hj
end XROWS
end
