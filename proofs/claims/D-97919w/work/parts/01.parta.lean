-- ===== PART A: goes FIRST, ahead of the names: the tables' words, and 'selects' of the private methods out of them =====
/-- a private method of a class that the tables say can be made, by its rows of tables_1 -/
def lw_okq (q : MethodName × Nat) : Prop := (q.1.cls ≠ "java/lang/invoke/MethodHandle" ∧ q.1.cls ≠ "java/lang/invoke/VarHandle") ∧ Cond.instantiable q.1.cls q.2 ∈ tables_1 ∧ Cond.privateMethod q.1 ∈ tables_1 ∧ Cond.instanceMethod q.1 ∈ tables_1
set_option maxRecDepth 100000
theorem lw_t1 {w : Cond} (h : w ∈ tables_1_1) : w ∈ tables_1 := List.mem_append_left _ h
theorem lw_t2 {w : Cond} (h : w ∈ tables_1_2) : w ∈ tables_1 := List.mem_append_right _ (List.mem_append_left _ h)
theorem lw_t3 {w : Cond} (h : w ∈ tables_1_3) : w ∈ tables_1 := List.mem_append_right _ (List.mem_append_right _ (List.mem_append_left _ h))
theorem lw_t4 {w : Cond} (h : w ∈ tables_1_4) : w ∈ tables_1 := List.mem_append_right _ (List.mem_append_right _ (List.mem_append_right _ (List.mem_append_left _ h)))
theorem lw_t5 {w : Cond} (h : w ∈ tables_1_5) : w ∈ tables_1 := List.mem_append_right _ (List.mem_append_right _ (List.mem_append_right _ (List.mem_append_right _ (List.mem_append_left _ h))))
theorem lw_t6 {w : Cond} (h : w ∈ tables_1_6) : w ∈ tables_1 := List.mem_append_right _ (List.mem_append_right _ (List.mem_append_right _ (List.mem_append_right _ (List.mem_append_right _ (List.mem_append_left _ h)))))
theorem lw_t7 {w : Cond} (h : w ∈ tables_1_7) : w ∈ tables_1 := List.mem_append_right _ (List.mem_append_right _ (List.mem_append_right _ (List.mem_append_right _ (List.mem_append_right _ (List.mem_append_right _ (List.mem_append_left _ h))))))
theorem lw_t8 {w : Cond} (h : w ∈ tables_1_8) : w ∈ tables_1 := List.mem_append_right _ (List.mem_append_right _ (List.mem_append_right _ (List.mem_append_right _ (List.mem_append_right _ (List.mem_append_right _ (List.mem_append_right _ h))))))
theorem lw_p0 : lw_okq (⟨"java/lang/Throwable", "fillInStackTrace", "(I)Ljava/lang/Throwable;"⟩, 6) := ⟨⟨by decide +kernel, by decide +kernel⟩, lw_t1 (List.mem_of_getElem? (i := 83) rfl), lw_t1 (List.mem_of_getElem? (i := 81) rfl), lw_t1 (List.mem_of_getElem? (i := 82) rfl)⟩
theorem lw_p1 : lw_okq (⟨"WellNames", "need", "(ZI)V"⟩, 12) := ⟨⟨by decide +kernel, by decide +kernel⟩, lw_t1 (List.mem_of_getElem? (i := 38) rfl), lw_t2 (List.mem_of_getElem? (i := 49) rfl), lw_t2 (List.mem_of_getElem? (i := 50) rfl)⟩
theorem lw_p2 : lw_okq (⟨"WellNames", "finds", "(LWellNames$Finding;)I"⟩, 12) := ⟨⟨by decide +kernel, by decide +kernel⟩, lw_t1 (List.mem_of_getElem? (i := 38) rfl), lw_t2 (List.mem_of_getElem? (i := 57) rfl), lw_t2 (List.mem_of_getElem? (i := 58) rfl)⟩
theorem lw_p3 : lw_okq (⟨"WellNames", "personAt", "(IZ)LWellNames$Drinker;"⟩, 12) := ⟨⟨by decide +kernel, by decide +kernel⟩, lw_t1 (List.mem_of_getElem? (i := 38) rfl), lw_t2 (List.mem_of_getElem? (i := 203) rfl), lw_t2 (List.mem_of_getElem? (i := 204) rfl)⟩
theorem lw_p4 : lw_okq (⟨"WellNames", "isPerson", "(I)Z"⟩, 12) := ⟨⟨by decide +kernel, by decide +kernel⟩, lw_t1 (List.mem_of_getElem? (i := 38) rfl), lw_t2 (List.mem_of_getElem? (i := 207) rfl), lw_t2 (List.mem_of_getElem? (i := 208) rfl)⟩
theorem lw_p5 : lw_okq (⟨"WellNames$Reader", "either", "()LWellNames$Term;"⟩, 5) := ⟨⟨by decide +kernel, by decide +kernel⟩, lw_t3 (List.mem_of_getElem? (i := 119) rfl), lw_t3 (List.mem_of_getElem? (i := 147) rfl), lw_t3 (List.mem_of_getElem? (i := 148) rfl)⟩
theorem lw_p6 : lw_okq (⟨"WellNames$Reader", "both", "()LWellNames$Term;"⟩, 5) := ⟨⟨by decide +kernel, by decide +kernel⟩, lw_t3 (List.mem_of_getElem? (i := 119) rfl), lw_t3 (List.mem_of_getElem? (i := 151) rfl), lw_t3 (List.mem_of_getElem? (i := 152) rfl)⟩
theorem lw_p7 : lw_okq (⟨"WellNames$Reader", "relation", "()LWellNames$Term;"⟩, 5) := ⟨⟨by decide +kernel, by decide +kernel⟩, lw_t3 (List.mem_of_getElem? (i := 119) rfl), lw_t3 (List.mem_of_getElem? (i := 155) rfl), lw_t3 (List.mem_of_getElem? (i := 156) rfl)⟩
theorem lw_p8 : lw_okq (⟨"WellNames$Reader", "sum", "()LWellNames$Term;"⟩, 5) := ⟨⟨by decide +kernel, by decide +kernel⟩, lw_t3 (List.mem_of_getElem? (i := 119) rfl), lw_t3 (List.mem_of_getElem? (i := 159) rfl), lw_t3 (List.mem_of_getElem? (i := 160) rfl)⟩
theorem lw_p9 : lw_okq (⟨"WellNames$Reader", "product", "()LWellNames$Term;"⟩, 5) := ⟨⟨by decide +kernel, by decide +kernel⟩, lw_t3 (List.mem_of_getElem? (i := 119) rfl), lw_t3 (List.mem_of_getElem? (i := 163) rfl), lw_t3 (List.mem_of_getElem? (i := 164) rfl)⟩
theorem lw_p10 : lw_okq (⟨"WellNames$Reader", "single", "()LWellNames$Term;"⟩, 5) := ⟨⟨by decide +kernel, by decide +kernel⟩, lw_t3 (List.mem_of_getElem? (i := 119) rfl), lw_t3 (List.mem_of_getElem? (i := 167) rfl), lw_t3 (List.mem_of_getElem? (i := 168) rfl)⟩
theorem lw_p11 : lw_okq (⟨"WellNames$Reader", "isOne", "(Ljava/lang/String;)Z"⟩, 5) := ⟨⟨by decide +kernel, by decide +kernel⟩, lw_t3 (List.mem_of_getElem? (i := 119) rfl), lw_t3 (List.mem_of_getElem? (i := 171) rfl), lw_t3 (List.mem_of_getElem? (i := 172) rfl)⟩
theorem lw_p12 : lw_okq (⟨"WellNames$Reader", "look", "()I"⟩, 5) := ⟨⟨by decide +kernel, by decide +kernel⟩, lw_t3 (List.mem_of_getElem? (i := 119) rfl), lw_t3 (List.mem_of_getElem? (i := 175) rfl), lw_t3 (List.mem_of_getElem? (i := 176) rfl)⟩
theorem lw_p13 : lw_okq (⟨"WellNames$Reader", "opens", "()V"⟩, 5) := ⟨⟨by decide +kernel, by decide +kernel⟩, lw_t3 (List.mem_of_getElem? (i := 119) rfl), lw_t4 (List.mem_of_getElem? (i := 35) rfl), lw_t4 (List.mem_of_getElem? (i := 36) rfl)⟩
theorem lw_p14 : lw_okq (⟨"WellNames$Reader", "fault", "(Z)V"⟩, 5) := ⟨⟨by decide +kernel, by decide +kernel⟩, lw_t3 (List.mem_of_getElem? (i := 119) rfl), lw_t4 (List.mem_of_getElem? (i := 39) rfl), lw_t4 (List.mem_of_getElem? (i := 40) rfl)⟩
theorem lw_p15 : lw_okq (⟨"WellNames$Desert", "thirsts", "(II)V"⟩, 19) := ⟨⟨by decide +kernel, by decide +kernel⟩, lw_t1 (List.mem_of_getElem? (i := 115) rfl), lw_t4 (List.mem_of_getElem? (i := 165) rfl), lw_t4 (List.mem_of_getElem? (i := 166) rfl)⟩
def lw_privs_1 : List (MethodName × Nat) := [(⟨"java/lang/Throwable", "fillInStackTrace", "(I)Ljava/lang/Throwable;"⟩, 6), (⟨"WellNames", "need", "(ZI)V"⟩, 12), (⟨"WellNames", "finds", "(LWellNames$Finding;)I"⟩, 12), (⟨"WellNames", "personAt", "(IZ)LWellNames$Drinker;"⟩, 12), (⟨"WellNames", "isPerson", "(I)Z"⟩, 12), (⟨"WellNames$Reader", "either", "()LWellNames$Term;"⟩, 5), (⟨"WellNames$Reader", "both", "()LWellNames$Term;"⟩, 5), (⟨"WellNames$Reader", "relation", "()LWellNames$Term;"⟩, 5), (⟨"WellNames$Reader", "sum", "()LWellNames$Term;"⟩, 5), (⟨"WellNames$Reader", "product", "()LWellNames$Term;"⟩, 5), (⟨"WellNames$Reader", "single", "()LWellNames$Term;"⟩, 5), (⟨"WellNames$Reader", "isOne", "(Ljava/lang/String;)Z"⟩, 5), (⟨"WellNames$Reader", "look", "()I"⟩, 5), (⟨"WellNames$Reader", "opens", "()V"⟩, 5), (⟨"WellNames$Reader", "fault", "(Z)V"⟩, 5), (⟨"WellNames$Desert", "thirsts", "(II)V"⟩, 19)]
theorem lw_r1 : ∀ q ∈ lw_privs_1, lw_okq q := List.forall_mem_cons.mpr ⟨lw_p0, List.forall_mem_cons.mpr ⟨lw_p1, List.forall_mem_cons.mpr ⟨lw_p2, List.forall_mem_cons.mpr ⟨lw_p3, List.forall_mem_cons.mpr ⟨lw_p4, List.forall_mem_cons.mpr ⟨lw_p5, List.forall_mem_cons.mpr ⟨lw_p6, List.forall_mem_cons.mpr ⟨lw_p7, List.forall_mem_cons.mpr ⟨lw_p8, List.forall_mem_cons.mpr ⟨lw_p9, List.forall_mem_cons.mpr ⟨lw_p10, List.forall_mem_cons.mpr ⟨lw_p11, List.forall_mem_cons.mpr ⟨lw_p12, List.forall_mem_cons.mpr ⟨lw_p13, List.forall_mem_cons.mpr ⟨lw_p14, List.forall_mem_cons.mpr ⟨lw_p15, fun _ h => absurd h List.not_mem_nil⟩⟩⟩⟩⟩⟩⟩⟩⟩⟩⟩⟩⟩⟩⟩⟩
theorem lw_p16 : lw_okq (⟨"WellNames", "mustGo", "(II)V"⟩, 12) := ⟨⟨by decide +kernel, by decide +kernel⟩, lw_t1 (List.mem_of_getElem? (i := 38) rfl), lw_t4 (List.mem_of_getElem? (i := 178) rfl), lw_t4 (List.mem_of_getElem? (i := 179) rfl)⟩
theorem lw_p17 : lw_okq (⟨"WellNames", "waysTo", "(IIIZ)I"⟩, 12) := ⟨⟨by decide +kernel, by decide +kernel⟩, lw_t1 (List.mem_of_getElem? (i := 38) rfl), lw_t4 (List.mem_of_getElem? (i := 212) rfl), lw_t4 (List.mem_of_getElem? (i := 213) rfl)⟩
theorem lw_p18 : lw_okq (⟨"WellNames", "findsWays", "(II)V"⟩, 12) := ⟨⟨by decide +kernel, by decide +kernel⟩, lw_t1 (List.mem_of_getElem? (i := 38) rfl), lw_t4 (List.mem_of_getElem? (i := 219) rfl), lw_t4 (List.mem_of_getElem? (i := 220) rfl)⟩
theorem lw_p19 : lw_okq (⟨"WellNames", "goesOn", "(IIII)Z"⟩, 12) := ⟨⟨by decide +kernel, by decide +kernel⟩, lw_t1 (List.mem_of_getElem? (i := 38) rfl), lw_t4 (List.mem_of_getElem? (i := 225) rfl), lw_t4 (List.mem_of_getElem? (i := 226) rfl)⟩
theorem lw_p20 : lw_okq (⟨"WellNames", "mayDrink", "(III)Z"⟩, 12) := ⟨⟨by decide +kernel, by decide +kernel⟩, lw_t1 (List.mem_of_getElem? (i := 38) rfl), lw_t4 (List.mem_of_getElem? (i := 229) rfl), lw_t4 (List.mem_of_getElem? (i := 230) rfl)⟩
theorem lw_p21 : lw_okq (⟨"WellNames", "comes", "(III)Z"⟩, 12) := ⟨⟨by decide +kernel, by decide +kernel⟩, lw_t1 (List.mem_of_getElem? (i := 38) rfl), lw_t4 (List.mem_of_getElem? (i := 237) rfl), lw_t4 (List.mem_of_getElem? (i := 238) rfl)⟩
theorem lw_p22 : lw_okq (⟨"WellNames", "leastAt", "(I)I"⟩, 12) := ⟨⟨by decide +kernel, by decide +kernel⟩, lw_t1 (List.mem_of_getElem? (i := 38) rfl), lw_t5 (List.mem_of_getElem? (i := 2) rfl), lw_t5 (List.mem_of_getElem? (i := 3) rfl)⟩
theorem lw_p23 : lw_okq (⟨"WellNames", "reached", "()I"⟩, 12) := ⟨⟨by decide +kernel, by decide +kernel⟩, lw_t1 (List.mem_of_getElem? (i := 38) rfl), lw_t5 (List.mem_of_getElem? (i := 14) rfl), lw_t5 (List.mem_of_getElem? (i := 15) rfl)⟩
theorem lw_p24 : lw_okq (⟨"WellNames", "walkOf", "(I)LWellNames$Sheet;"⟩, 12) := ⟨⟨by decide +kernel, by decide +kernel⟩, lw_t1 (List.mem_of_getElem? (i := 38) rfl), lw_t5 (List.mem_of_getElem? (i := 43) rfl), lw_t5 (List.mem_of_getElem? (i := 44) rfl)⟩
theorem lw_p25 : lw_okq (⟨"WellNames", "sheetAt", "(I)LWellNames$Sheet;"⟩, 12) := ⟨⟨by decide +kernel, by decide +kernel⟩, lw_t1 (List.mem_of_getElem? (i := 38) rfl), lw_t5 (List.mem_of_getElem? (i := 47) rfl), lw_t5 (List.mem_of_getElem? (i := 48) rfl)⟩
theorem lw_p26 : lw_okq (⟨"WellNamesModel", "becomes", "(II)I"⟩, 25) := ⟨⟨by decide +kernel, by decide +kernel⟩, lw_t6 (List.mem_of_getElem? (i := 146) rfl), lw_t7 (List.mem_of_getElem? (i := 0) rfl), lw_t7 (List.mem_of_getElem? (i := 1) rfl)⟩
theorem lw_p27 : lw_okq (⟨"WellNamesModel", "errs", "(I)I"⟩, 25) := ⟨⟨by decide +kernel, by decide +kernel⟩, lw_t6 (List.mem_of_getElem? (i := 146) rfl), lw_t7 (List.mem_of_getElem? (i := 5) rfl), lw_t7 (List.mem_of_getElem? (i := 6) rfl)⟩
theorem lw_p28 : lw_okq (⟨"WellNamesModel", "roadsOf", "(I)I"⟩, 25) := ⟨⟨by decide +kernel, by decide +kernel⟩, lw_t6 (List.mem_of_getElem? (i := 146) rfl), lw_t7 (List.mem_of_getElem? (i := 25) rfl), lw_t7 (List.mem_of_getElem? (i := 26) rfl)⟩
theorem lw_p29 : lw_okq (⟨"WellNamesModel", "roadOf", "(II)I"⟩, 25) := ⟨⟨by decide +kernel, by decide +kernel⟩, lw_t6 (List.mem_of_getElem? (i := 146) rfl), lw_t7 (List.mem_of_getElem? (i := 29) rfl), lw_t7 (List.mem_of_getElem? (i := 30) rfl)⟩
theorem lw_p30 : lw_okq (⟨"WellNamesModel", "those", "(II)I"⟩, 25) := ⟨⟨by decide +kernel, by decide +kernel⟩, lw_t6 (List.mem_of_getElem? (i := 146) rfl), lw_t7 (List.mem_of_getElem? (i := 33) rfl), lw_t7 (List.mem_of_getElem? (i := 34) rfl)⟩
theorem lw_p31 : lw_okq (⟨"WellNamesModel", "its", "(II)I"⟩, 25) := ⟨⟨by decide +kernel, by decide +kernel⟩, lw_t6 (List.mem_of_getElem? (i := 146) rfl), lw_t7 (List.mem_of_getElem? (i := 37) rfl), lw_t7 (List.mem_of_getElem? (i := 38) rfl)⟩
def lw_privs_2 : List (MethodName × Nat) := [(⟨"WellNames", "mustGo", "(II)V"⟩, 12), (⟨"WellNames", "waysTo", "(IIIZ)I"⟩, 12), (⟨"WellNames", "findsWays", "(II)V"⟩, 12), (⟨"WellNames", "goesOn", "(IIII)Z"⟩, 12), (⟨"WellNames", "mayDrink", "(III)Z"⟩, 12), (⟨"WellNames", "comes", "(III)Z"⟩, 12), (⟨"WellNames", "leastAt", "(I)I"⟩, 12), (⟨"WellNames", "reached", "()I"⟩, 12), (⟨"WellNames", "walkOf", "(I)LWellNames$Sheet;"⟩, 12), (⟨"WellNames", "sheetAt", "(I)LWellNames$Sheet;"⟩, 12), (⟨"WellNamesModel", "becomes", "(II)I"⟩, 25), (⟨"WellNamesModel", "errs", "(I)I"⟩, 25), (⟨"WellNamesModel", "roadsOf", "(I)I"⟩, 25), (⟨"WellNamesModel", "roadOf", "(II)I"⟩, 25), (⟨"WellNamesModel", "those", "(II)I"⟩, 25), (⟨"WellNamesModel", "its", "(II)I"⟩, 25)]
theorem lw_r2 : ∀ q ∈ lw_privs_2, lw_okq q := List.forall_mem_cons.mpr ⟨lw_p16, List.forall_mem_cons.mpr ⟨lw_p17, List.forall_mem_cons.mpr ⟨lw_p18, List.forall_mem_cons.mpr ⟨lw_p19, List.forall_mem_cons.mpr ⟨lw_p20, List.forall_mem_cons.mpr ⟨lw_p21, List.forall_mem_cons.mpr ⟨lw_p22, List.forall_mem_cons.mpr ⟨lw_p23, List.forall_mem_cons.mpr ⟨lw_p24, List.forall_mem_cons.mpr ⟨lw_p25, List.forall_mem_cons.mpr ⟨lw_p26, List.forall_mem_cons.mpr ⟨lw_p27, List.forall_mem_cons.mpr ⟨lw_p28, List.forall_mem_cons.mpr ⟨lw_p29, List.forall_mem_cons.mpr ⟨lw_p30, List.forall_mem_cons.mpr ⟨lw_p31, fun _ h => absurd h List.not_mem_nil⟩⟩⟩⟩⟩⟩⟩⟩⟩⟩⟩⟩⟩⟩⟩⟩
theorem lw_p32 : lw_okq (⟨"WellNamesModel", "owes", "(I)I"⟩, 25) := ⟨⟨by decide +kernel, by decide +kernel⟩, lw_t6 (List.mem_of_getElem? (i := 146) rfl), lw_t7 (List.mem_of_getElem? (i := 44) rfl), lw_t7 (List.mem_of_getElem? (i := 45) rfl)⟩
theorem lw_p33 : lw_okq (⟨"WellNamesModel", "isPerson", "(I)Z"⟩, 25) := ⟨⟨by decide +kernel, by decide +kernel⟩, lw_t6 (List.mem_of_getElem? (i := 146) rfl), lw_t7 (List.mem_of_getElem? (i := 66) rfl), lw_t7 (List.mem_of_getElem? (i := 67) rfl)⟩
theorem lw_p34 : lw_okq (⟨"WellNamesModel", "limitOf", "(I)I"⟩, 25) := ⟨⟨by decide +kernel, by decide +kernel⟩, lw_t6 (List.mem_of_getElem? (i := 146) rfl), lw_t7 (List.mem_of_getElem? (i := 71) rfl), lw_t7 (List.mem_of_getElem? (i := 72) rfl)⟩
theorem lw_p35 : lw_okq (⟨"WellNamesModel", "needsOf", "(II)I"⟩, 25) := ⟨⟨by decide +kernel, by decide +kernel⟩, lw_t6 (List.mem_of_getElem? (i := 146) rfl), lw_t7 (List.mem_of_getElem? (i := 75) rfl), lw_t7 (List.mem_of_getElem? (i := 76) rfl)⟩
theorem lw_p36 : lw_okq (⟨"WellNamesModel", "needed", "(III)I"⟩, 25) := ⟨⟨by decide +kernel, by decide +kernel⟩, lw_t6 (List.mem_of_getElem? (i := 146) rfl), lw_t7 (List.mem_of_getElem? (i := 79) rfl), lw_t7 (List.mem_of_getElem? (i := 80) rfl)⟩
theorem lw_p37 : lw_okq (⟨"WellNamesModel", "worked", "(IIII)I"⟩, 25) := ⟨⟨by decide +kernel, by decide +kernel⟩, lw_t6 (List.mem_of_getElem? (i := 146) rfl), lw_t7 (List.mem_of_getElem? (i := 83) rfl), lw_t7 (List.mem_of_getElem? (i := 84) rfl)⟩
theorem lw_p38 : lw_okq (⟨"WellNamesModel", "readsText", "(IIIIII)I"⟩, 25) := ⟨⟨by decide +kernel, by decide +kernel⟩, lw_t6 (List.mem_of_getElem? (i := 146) rfl), lw_t7 (List.mem_of_getElem? (i := 87) rfl), lw_t7 (List.mem_of_getElem? (i := 88) rfl)⟩
theorem lw_p39 : lw_okq (⟨"WellNamesModel", "any", "()I"⟩, 25) := ⟨⟨by decide +kernel, by decide +kernel⟩, lw_t6 (List.mem_of_getElem? (i := 146) rfl), lw_t7 (List.mem_of_getElem? (i := 91) rfl), lw_t7 (List.mem_of_getElem? (i := 92) rfl)⟩
theorem lw_p40 : lw_okq (⟨"WellNamesModel", "both", "()I"⟩, 25) := ⟨⟨by decide +kernel, by decide +kernel⟩, lw_t6 (List.mem_of_getElem? (i := 146) rfl), lw_t7 (List.mem_of_getElem? (i := 95) rfl), lw_t7 (List.mem_of_getElem? (i := 96) rfl)⟩
theorem lw_p41 : lw_okq (⟨"WellNamesModel", "test", "()I"⟩, 25) := ⟨⟨by decide +kernel, by decide +kernel⟩, lw_t6 (List.mem_of_getElem? (i := 146) rfl), lw_t7 (List.mem_of_getElem? (i := 99) rfl), lw_t7 (List.mem_of_getElem? (i := 100) rfl)⟩
theorem lw_p42 : lw_okq (⟨"WellNamesModel", "sum", "()I"⟩, 25) := ⟨⟨by decide +kernel, by decide +kernel⟩, lw_t6 (List.mem_of_getElem? (i := 146) rfl), lw_t7 (List.mem_of_getElem? (i := 103) rfl), lw_t7 (List.mem_of_getElem? (i := 104) rfl)⟩
theorem lw_p43 : lw_okq (⟨"WellNamesModel", "product", "()I"⟩, 25) := ⟨⟨by decide +kernel, by decide +kernel⟩, lw_t6 (List.mem_of_getElem? (i := 146) rfl), lw_t7 (List.mem_of_getElem? (i := 107) rfl), lw_t7 (List.mem_of_getElem? (i := 108) rfl)⟩
theorem lw_p44 : lw_okq (⟨"WellNamesModel", "single", "()I"⟩, 25) := ⟨⟨by decide +kernel, by decide +kernel⟩, lw_t6 (List.mem_of_getElem? (i := 146) rfl), lw_t7 (List.mem_of_getElem? (i := 111) rfl), lw_t7 (List.mem_of_getElem? (i := 112) rfl)⟩
theorem lw_p45 : lw_okq (⟨"WellNamesModel", "here", "()I"⟩, 25) := ⟨⟨by decide +kernel, by decide +kernel⟩, lw_t6 (List.mem_of_getElem? (i := 146) rfl), lw_t7 (List.mem_of_getElem? (i := 115) rfl), lw_t7 (List.mem_of_getElem? (i := 116) rfl)⟩
theorem lw_p46 : lw_okq (⟨"WellNamesModel", "name", "(I)I"⟩, 25) := ⟨⟨by decide +kernel, by decide +kernel⟩, lw_t6 (List.mem_of_getElem? (i := 146) rfl), lw_t7 (List.mem_of_getElem? (i := 124) rfl), lw_t7 (List.mem_of_getElem? (i := 125) rfl)⟩
theorem lw_p47 : lw_okq (⟨"WellNamesModel", "takes", "(I)Z"⟩, 25) := ⟨⟨by decide +kernel, by decide +kernel⟩, lw_t6 (List.mem_of_getElem? (i := 146) rfl), lw_t7 (List.mem_of_getElem? (i := 128) rfl), lw_t7 (List.mem_of_getElem? (i := 129) rfl)⟩
def lw_privs_3 : List (MethodName × Nat) := [(⟨"WellNamesModel", "owes", "(I)I"⟩, 25), (⟨"WellNamesModel", "isPerson", "(I)Z"⟩, 25), (⟨"WellNamesModel", "limitOf", "(I)I"⟩, 25), (⟨"WellNamesModel", "needsOf", "(II)I"⟩, 25), (⟨"WellNamesModel", "needed", "(III)I"⟩, 25), (⟨"WellNamesModel", "worked", "(IIII)I"⟩, 25), (⟨"WellNamesModel", "readsText", "(IIIIII)I"⟩, 25), (⟨"WellNamesModel", "any", "()I"⟩, 25), (⟨"WellNamesModel", "both", "()I"⟩, 25), (⟨"WellNamesModel", "test", "()I"⟩, 25), (⟨"WellNamesModel", "sum", "()I"⟩, 25), (⟨"WellNamesModel", "product", "()I"⟩, 25), (⟨"WellNamesModel", "single", "()I"⟩, 25), (⟨"WellNamesModel", "here", "()I"⟩, 25), (⟨"WellNamesModel", "name", "(I)I"⟩, 25), (⟨"WellNamesModel", "takes", "(I)Z"⟩, 25)]
theorem lw_r3 : ∀ q ∈ lw_privs_3, lw_okq q := List.forall_mem_cons.mpr ⟨lw_p32, List.forall_mem_cons.mpr ⟨lw_p33, List.forall_mem_cons.mpr ⟨lw_p34, List.forall_mem_cons.mpr ⟨lw_p35, List.forall_mem_cons.mpr ⟨lw_p36, List.forall_mem_cons.mpr ⟨lw_p37, List.forall_mem_cons.mpr ⟨lw_p38, List.forall_mem_cons.mpr ⟨lw_p39, List.forall_mem_cons.mpr ⟨lw_p40, List.forall_mem_cons.mpr ⟨lw_p41, List.forall_mem_cons.mpr ⟨lw_p42, List.forall_mem_cons.mpr ⟨lw_p43, List.forall_mem_cons.mpr ⟨lw_p44, List.forall_mem_cons.mpr ⟨lw_p45, List.forall_mem_cons.mpr ⟨lw_p46, List.forall_mem_cons.mpr ⟨lw_p47, fun _ h => absurd h List.not_mem_nil⟩⟩⟩⟩⟩⟩⟩⟩⟩⟩⟩⟩⟩⟩⟩⟩
theorem lw_p48 : lw_okq (⟨"WellNamesModel", "parched", "(III)I"⟩, 25) := ⟨⟨by decide +kernel, by decide +kernel⟩, lw_t6 (List.mem_of_getElem? (i := 146) rfl), lw_t7 (List.mem_of_getElem? (i := 161) rfl), lw_t7 (List.mem_of_getElem? (i := 162) rfl)⟩
theorem lw_p49 : lw_okq (⟨"WellNamesModel", "calledOf", "(II)I"⟩, 25) := ⟨⟨by decide +kernel, by decide +kernel⟩, lw_t6 (List.mem_of_getElem? (i := 146) rfl), lw_t7 (List.mem_of_getElem? (i := 170) rfl), lw_t7 (List.mem_of_getElem? (i := 171) rfl)⟩
theorem lw_p50 : lw_okq (⟨"WellNamesModel", "thirstBy", "(II)I"⟩, 25) := ⟨⟨by decide +kernel, by decide +kernel⟩, lw_t6 (List.mem_of_getElem? (i := 146) rfl), lw_t7 (List.mem_of_getElem? (i := 179) rfl), lw_t7 (List.mem_of_getElem? (i := 180) rfl)⟩
theorem lw_p51 : lw_okq (⟨"WellNamesModel", "dies", "(I)V"⟩, 25) := ⟨⟨by decide +kernel, by decide +kernel⟩, lw_t6 (List.mem_of_getElem? (i := 146) rfl), lw_t7 (List.mem_of_getElem? (i := 183) rfl), lw_t7 (List.mem_of_getElem? (i := 184) rfl)⟩
theorem lw_p52 : lw_okq (⟨"WellNamesModel", "wrongDays", "(II)I"⟩, 25) := ⟨⟨by decide +kernel, by decide +kernel⟩, lw_t6 (List.mem_of_getElem? (i := 146) rfl), lw_t7 (List.mem_of_getElem? (i := 195) rfl), lw_t7 (List.mem_of_getElem? (i := 196) rfl)⟩
theorem lw_p53 : lw_okq (⟨"WellNamesModel", "day", "()V"⟩, 25) := ⟨⟨by decide +kernel, by decide +kernel⟩, lw_t6 (List.mem_of_getElem? (i := 146) rfl), lw_t7 (List.mem_of_getElem? (i := 199) rfl), lw_t7 (List.mem_of_getElem? (i := 200) rfl)⟩
theorem lw_p54 : lw_okq (⟨"WellNamesModel", "dead", "()I"⟩, 25) := ⟨⟨by decide +kernel, by decide +kernel⟩, lw_t6 (List.mem_of_getElem? (i := 146) rfl), lw_t7 (List.mem_of_getElem? (i := 203) rfl), lw_t7 (List.mem_of_getElem? (i := 204) rfl)⟩
theorem lw_p55 : lw_okq (⟨"WellNamesModel", "draw", "()I"⟩, 25) := ⟨⟨by decide +kernel, by decide +kernel⟩, lw_t6 (List.mem_of_getElem? (i := 146) rfl), lw_t7 (List.mem_of_getElem? (i := 211) rfl), lw_t7 (List.mem_of_getElem? (i := 212) rfl)⟩
theorem lw_p56 : lw_okq (⟨"WellNamesModel", "way", "(IIIZ)I"⟩, 25) := ⟨⟨by decide +kernel, by decide +kernel⟩, lw_t6 (List.mem_of_getElem? (i := 146) rfl), lw_t7 (List.mem_of_getElem? (i := 227) rfl), lw_t7 (List.mem_of_getElem? (i := 228) rfl)⟩
theorem lw_p57 : lw_okq (⟨"WellNamesModel", "wrongWay", "(IZ)I"⟩, 25) := ⟨⟨by decide +kernel, by decide +kernel⟩, lw_t6 (List.mem_of_getElem? (i := 146) rfl), lw_t7 (List.mem_of_getElem? (i := 234) rfl), lw_t7 (List.mem_of_getElem? (i := 235) rfl)⟩
theorem lw_p58 : lw_okq (⟨"WellNamesModel", "spreads", "(IIZ)V"⟩, 25) := ⟨⟨by decide +kernel, by decide +kernel⟩, lw_t6 (List.mem_of_getElem? (i := 146) rfl), lw_t7 (List.mem_of_getElem? (i := 238) rfl), lw_t7 (List.mem_of_getElem? (i := 239) rfl)⟩
theorem lw_p59 : lw_okq (⟨"WellNamesModel", "lessens", "(III)Z"⟩, 25) := ⟨⟨by decide +kernel, by decide +kernel⟩, lw_t6 (List.mem_of_getElem? (i := 146) rfl), lw_t8 (List.mem_of_getElem? (i := 3) rfl), lw_t8 (List.mem_of_getElem? (i := 4) rfl)⟩
theorem lw_p60 : lw_okq (⟨"WellNamesModel", "mayDrink", "(III)Z"⟩, 25) := ⟨⟨by decide +kernel, by decide +kernel⟩, lw_t6 (List.mem_of_getElem? (i := 146) rfl), lw_t8 (List.mem_of_getElem? (i := 7) rfl), lw_t8 (List.mem_of_getElem? (i := 8) rfl)⟩
theorem lw_p61 : lw_okq (⟨"WellNamesModel", "leastAt", "(I)I"⟩, 25) := ⟨⟨by decide +kernel, by decide +kernel⟩, lw_t6 (List.mem_of_getElem? (i := 146) rfl), lw_t8 (List.mem_of_getElem? (i := 11) rfl), lw_t8 (List.mem_of_getElem? (i := 12) rfl)⟩
theorem lw_p62 : lw_okq (⟨"WellNamesModel", "reached", "(II)I"⟩, 25) := ⟨⟨by decide +kernel, by decide +kernel⟩, lw_t6 (List.mem_of_getElem? (i := 146) rfl), lw_t8 (List.mem_of_getElem? (i := 24) rfl), lw_t8 (List.mem_of_getElem? (i := 25) rfl)⟩
theorem lw_p63 : lw_okq (⟨"WellNamesModel", "isWalk", "(I)Z"⟩, 25) := ⟨⟨by decide +kernel, by decide +kernel⟩, lw_t6 (List.mem_of_getElem? (i := 146) rfl), lw_t8 (List.mem_of_getElem? (i := 48) rfl), lw_t8 (List.mem_of_getElem? (i := 49) rfl)⟩
def lw_privs_4 : List (MethodName × Nat) := [(⟨"WellNamesModel", "parched", "(III)I"⟩, 25), (⟨"WellNamesModel", "calledOf", "(II)I"⟩, 25), (⟨"WellNamesModel", "thirstBy", "(II)I"⟩, 25), (⟨"WellNamesModel", "dies", "(I)V"⟩, 25), (⟨"WellNamesModel", "wrongDays", "(II)I"⟩, 25), (⟨"WellNamesModel", "day", "()V"⟩, 25), (⟨"WellNamesModel", "dead", "()I"⟩, 25), (⟨"WellNamesModel", "draw", "()I"⟩, 25), (⟨"WellNamesModel", "way", "(IIIZ)I"⟩, 25), (⟨"WellNamesModel", "wrongWay", "(IZ)I"⟩, 25), (⟨"WellNamesModel", "spreads", "(IIZ)V"⟩, 25), (⟨"WellNamesModel", "lessens", "(III)Z"⟩, 25), (⟨"WellNamesModel", "mayDrink", "(III)Z"⟩, 25), (⟨"WellNamesModel", "leastAt", "(I)I"⟩, 25), (⟨"WellNamesModel", "reached", "(II)I"⟩, 25), (⟨"WellNamesModel", "isWalk", "(I)Z"⟩, 25)]
theorem lw_r4 : ∀ q ∈ lw_privs_4, lw_okq q := List.forall_mem_cons.mpr ⟨lw_p48, List.forall_mem_cons.mpr ⟨lw_p49, List.forall_mem_cons.mpr ⟨lw_p50, List.forall_mem_cons.mpr ⟨lw_p51, List.forall_mem_cons.mpr ⟨lw_p52, List.forall_mem_cons.mpr ⟨lw_p53, List.forall_mem_cons.mpr ⟨lw_p54, List.forall_mem_cons.mpr ⟨lw_p55, List.forall_mem_cons.mpr ⟨lw_p56, List.forall_mem_cons.mpr ⟨lw_p57, List.forall_mem_cons.mpr ⟨lw_p58, List.forall_mem_cons.mpr ⟨lw_p59, List.forall_mem_cons.mpr ⟨lw_p60, List.forall_mem_cons.mpr ⟨lw_p61, List.forall_mem_cons.mpr ⟨lw_p62, List.forall_mem_cons.mpr ⟨lw_p63, fun _ h => absurd h List.not_mem_nil⟩⟩⟩⟩⟩⟩⟩⟩⟩⟩⟩⟩⟩⟩⟩⟩
theorem lw_p64 : lw_okq (⟨"WellNamesModel", "readsBy", "(I)I"⟩, 25) := ⟨⟨by decide +kernel, by decide +kernel⟩, lw_t6 (List.mem_of_getElem? (i := 146) rfl), lw_t8 (List.mem_of_getElem? (i := 69) rfl), lw_t8 (List.mem_of_getElem? (i := 70) rfl)⟩
theorem lw_p65 : lw_okq (⟨"WellNamesModel", "plainReads", "(I)I"⟩, 25) := ⟨⟨by decide +kernel, by decide +kernel⟩, lw_t6 (List.mem_of_getElem? (i := 146) rfl), lw_t8 (List.mem_of_getElem? (i := 73) rfl), lw_t8 (List.mem_of_getElem? (i := 74) rfl)⟩
theorem lw_p66 : lw_okq (⟨"WellNamesModel", "ran", "(I)V"⟩, 25) := ⟨⟨by decide +kernel, by decide +kernel⟩, lw_t6 (List.mem_of_getElem? (i := 146) rfl), lw_t8 (List.mem_of_getElem? (i := 77) rfl), lw_t8 (List.mem_of_getElem? (i := 78) rfl)⟩
theorem lw_p67 : lw_okq (⟨"WellNamesModel", "givesBy", "(I)I"⟩, 25) := ⟨⟨by decide +kernel, by decide +kernel⟩, lw_t6 (List.mem_of_getElem? (i := 146) rfl), lw_t8 (List.mem_of_getElem? (i := 81) rfl), lw_t8 (List.mem_of_getElem? (i := 82) rfl)⟩
theorem lw_p68 : lw_okq (⟨"WellNamesModel", "poemGives", "(I)I"⟩, 25) := ⟨⟨by decide +kernel, by decide +kernel⟩, lw_t6 (List.mem_of_getElem? (i := 146) rfl), lw_t8 (List.mem_of_getElem? (i := 85) rfl), lw_t8 (List.mem_of_getElem? (i := 86) rfl)⟩
theorem lw_p69 : lw_okq (⟨"WellNamesModel", "plainGives", "(I)I"⟩, 25) := ⟨⟨by decide +kernel, by decide +kernel⟩, lw_t6 (List.mem_of_getElem? (i := 146) rfl), lw_t8 (List.mem_of_getElem? (i := 89) rfl), lw_t8 (List.mem_of_getElem? (i := 90) rfl)⟩
theorem lw_p70 : lw_okq (⟨"WellNamesModel", "takesBy", "(I)I"⟩, 25) := ⟨⟨by decide +kernel, by decide +kernel⟩, lw_t6 (List.mem_of_getElem? (i := 146) rfl), lw_t8 (List.mem_of_getElem? (i := 93) rfl), lw_t8 (List.mem_of_getElem? (i := 94) rfl)⟩
theorem lw_p71 : lw_okq (⟨"WellNamesModel", "lawTakes", "(I)I"⟩, 25) := ⟨⟨by decide +kernel, by decide +kernel⟩, lw_t6 (List.mem_of_getElem? (i := 146) rfl), lw_t8 (List.mem_of_getElem? (i := 97) rfl), lw_t8 (List.mem_of_getElem? (i := 98) rfl)⟩
theorem lw_p72 : lw_okq (⟨"WellNamesModel", "plainTakes", "(I)I"⟩, 25) := ⟨⟨by decide +kernel, by decide +kernel⟩, lw_t6 (List.mem_of_getElem? (i := 146) rfl), lw_t8 (List.mem_of_getElem? (i := 101) rfl), lw_t8 (List.mem_of_getElem? (i := 102) rfl)⟩
theorem lw_p73 : lw_okq (⟨"WellNamesModel", "tellsBy", "(I)I"⟩, 25) := ⟨⟨by decide +kernel, by decide +kernel⟩, lw_t6 (List.mem_of_getElem? (i := 146) rfl), lw_t8 (List.mem_of_getElem? (i := 105) rfl), lw_t8 (List.mem_of_getElem? (i := 106) rfl)⟩
theorem lw_p74 : lw_okq (⟨"WellNamesModel", "plainTells", "(I)I"⟩, 25) := ⟨⟨by decide +kernel, by decide +kernel⟩, lw_t6 (List.mem_of_getElem? (i := 146) rfl), lw_t8 (List.mem_of_getElem? (i := 109) rfl), lw_t8 (List.mem_of_getElem? (i := 110) rfl)⟩
theorem lw_p75 : lw_okq (⟨"WellNamesModel", "wrong", "(I)I"⟩, 25) := ⟨⟨by decide +kernel, by decide +kernel⟩, lw_t6 (List.mem_of_getElem? (i := 146) rfl), lw_t8 (List.mem_of_getElem? (i := 125) rfl), lw_t8 (List.mem_of_getElem? (i := 126) rfl)⟩
theorem lw_p76 : lw_okq (⟨"WellNamesModel", "laysAside", "()V"⟩, 25) := ⟨⟨by decide +kernel, by decide +kernel⟩, lw_t6 (List.mem_of_getElem? (i := 146) rfl), lw_t8 (List.mem_of_getElem? (i := 157) rfl), lw_t8 (List.mem_of_getElem? (i := 158) rfl)⟩
theorem lw_p77 : lw_okq (⟨"WellNamesModel", "takesBack", "(I)I"⟩, 25) := ⟨⟨by decide +kernel, by decide +kernel⟩, lw_t6 (List.mem_of_getElem? (i := 146) rfl), lw_t8 (List.mem_of_getElem? (i := 161) rfl), lw_t8 (List.mem_of_getElem? (i := 162) rfl)⟩
theorem lw_p78 : lw_okq (⟨"WellNamesModel", "sum", "(II)I"⟩, 25) := ⟨⟨by decide +kernel, by decide +kernel⟩, lw_t6 (List.mem_of_getElem? (i := 146) rfl), lw_t8 (List.mem_of_getElem? (i := 169) rfl), lw_t8 (List.mem_of_getElem? (i := 170) rfl)⟩
def lw_privs_5 : List (MethodName × Nat) := [(⟨"WellNamesModel", "readsBy", "(I)I"⟩, 25), (⟨"WellNamesModel", "plainReads", "(I)I"⟩, 25), (⟨"WellNamesModel", "ran", "(I)V"⟩, 25), (⟨"WellNamesModel", "givesBy", "(I)I"⟩, 25), (⟨"WellNamesModel", "poemGives", "(I)I"⟩, 25), (⟨"WellNamesModel", "plainGives", "(I)I"⟩, 25), (⟨"WellNamesModel", "takesBy", "(I)I"⟩, 25), (⟨"WellNamesModel", "lawTakes", "(I)I"⟩, 25), (⟨"WellNamesModel", "plainTakes", "(I)I"⟩, 25), (⟨"WellNamesModel", "tellsBy", "(I)I"⟩, 25), (⟨"WellNamesModel", "plainTells", "(I)I"⟩, 25), (⟨"WellNamesModel", "wrong", "(I)I"⟩, 25), (⟨"WellNamesModel", "laysAside", "()V"⟩, 25), (⟨"WellNamesModel", "takesBack", "(I)I"⟩, 25), (⟨"WellNamesModel", "sum", "(II)I"⟩, 25)]
theorem lw_r5 : ∀ q ∈ lw_privs_5, lw_okq q := List.forall_mem_cons.mpr ⟨lw_p64, List.forall_mem_cons.mpr ⟨lw_p65, List.forall_mem_cons.mpr ⟨lw_p66, List.forall_mem_cons.mpr ⟨lw_p67, List.forall_mem_cons.mpr ⟨lw_p68, List.forall_mem_cons.mpr ⟨lw_p69, List.forall_mem_cons.mpr ⟨lw_p70, List.forall_mem_cons.mpr ⟨lw_p71, List.forall_mem_cons.mpr ⟨lw_p72, List.forall_mem_cons.mpr ⟨lw_p73, List.forall_mem_cons.mpr ⟨lw_p74, List.forall_mem_cons.mpr ⟨lw_p75, List.forall_mem_cons.mpr ⟨lw_p76, List.forall_mem_cons.mpr ⟨lw_p77, List.forall_mem_cons.mpr ⟨lw_p78, fun _ h => absurd h List.not_mem_nil⟩⟩⟩⟩⟩⟩⟩⟩⟩⟩⟩⟩⟩⟩⟩
def lw_privs : List (MethodName × Nat) := lw_privs_1 ++ (lw_privs_2 ++ (lw_privs_3 ++ (lw_privs_4 ++ (lw_privs_5))))
def lw_tbl : List Cond := k2_sels lw_privs ++ tables_1
theorem lw_privs_ok : ∀ q ∈ lw_privs, lw_okq q := by
  show ∀ q ∈ lw_privs_1 ++ (lw_privs_2 ++ (lw_privs_3 ++ (lw_privs_4 ++ (lw_privs_5)))), lw_okq q
  exact List.forall_mem_append.mpr ⟨lw_r1, List.forall_mem_append.mpr ⟨lw_r2, List.forall_mem_append.mpr ⟨lw_r3, List.forall_mem_append.mpr ⟨lw_r4, lw_r5⟩⟩⟩⟩
-- ===== ONE list of words for every method: the tables' words that hold all through a run =====
def lw_all : List Cond := lw_tbl.filter goodWord
/-- a word of the tables by its place: claim/WORDS.tsv -/
theorem lw_w {w : Cond} (i : Nat) (h : lw_tbl[i]? = some w) (g : goodWord w = true) : w ∈ lw_all := List.mem_filter.mpr ⟨List.mem_of_getElem? h, g⟩
theorem lw_all_tbl {w : Cond} (h : w ∈ lw_all) : w ∈ lw_tbl := (List.mem_filter.mp h).1
theorem lw_self : GoodIn lw_all lw_all := fun w h => ⟨h, good_of_word (List.mem_filter.mp h).2⟩
/-- a class's field words, by their places -/
theorem lw_in (ws : List Cond) (ps : List Nat) (hp : ws = ps.filterMap (fun i => lw_tbl[i]?)) (hg : ws.all goodWord = true) : ∀ w ∈ ws, w ∈ lw_all := by
  intro w h
  have h1 := List.all_eq_true.mp hg w h
  rw [hp] at h
  obtain ⟨i, -, hi⟩ := List.mem_filterMap.mp h
  exact lw_w i hi h1
/-- the words of a contract for the method y with code b, L locals, answer r -/
abbrev ws_ (y : MethodName) (b : ByteArray) (L : Nat) (r : Option FieldType) : List Cond := Cond.code y b L r :: lw_all
theorem lw_meth {y : MethodName} {b : ByteArray} {L : Nat} {r : Option FieldType} (h : Cond.code y b L r ∈ lw_all) : GoodIn lw_all (ws_ y b L r) := by
  intro w hw
  rcases List.mem_cons.mp hw with e | e
  · rw [e]
    exact lw_self _ h
  · exact lw_self _ e
theorem lw_app {a c : List Cond} (ha : ∀ w ∈ a, w ∈ lw_all) (hc : GoodIn lw_all c) : GoodIn lw_all (a ++ c) := by
  intro w hw
  rcases List.mem_append.mp hw with e | e
  · exact lw_self w (ha w e)
  · exact hc w e
/-- what a call through an object asks: cwV n hts (lw_V ..) -/
theorem lw_V {own : String} {idx : Nat} {C : String} {y : MethodName} {b : ByteArray} {L : Nat} {r : Option FieldType} (h1 : Cond.methodLink own idx y ∈ lw_all) (h2 : Cond.instanceMethod y ∈ lw_all) (h3 : Cond.selects C y y ∈ lw_all) (h4 : Cond.initialized C ∈ lw_all) (h5 : Cond.code y b L r ∈ lw_all) : GoodIn lw_all (wsV own idx C y (ws_ y b L r)) := by
  refine lw_app ?_ (lw_meth h5)
  intro w hw
  simp only [List.mem_cons, List.not_mem_nil, or_false] at hw
  rcases hw with e | e | e | e
  · rw [e]; exact h1
  · rw [e]; exact h2
  · rw [e]; exact h3
  · rw [e]; exact h4
/-- what a static call asks: va_cwS n hts (lw_S ..) -/
theorem lw_S {own : String} {idx : Nat} {y : MethodName} {b : ByteArray} {L : Nat} {r : Option FieldType} (h1 : Cond.methodLink own idx y ∈ lw_all) (h2 : Cond.static y ∈ lw_all) (h3 : Cond.initialized y.cls ∈ lw_all) (h4 : Cond.code y b L r ∈ lw_all) : GoodIn lw_all (va_wsS own idx y (ws_ y b L r)) := by
  refine lw_app ?_ (lw_meth h4)
  intro w hw
  simp only [List.mem_cons, List.not_mem_nil, or_false] at hw
  rcases hw with e | e | e
  · rw [e]; exact h1
  · rw [e]; exact h2
  · rw [e]; exact h3
/-- the words of a contract for a method WITH HANDLERS (hh: its table) -/
abbrev wsW_ (y : MethodName) (b : ByteArray) (L : Nat) (r : Option FieldType) (hh : List (Nat × Nat × Nat × Nat)) : List Cond := Cond.codeWith y b L r hh :: lw_all
theorem lw_methW {y : MethodName} {b : ByteArray} {L : Nat} {r : Option FieldType} {hh : List (Nat × Nat × Nat × Nat)} (h : Cond.codeWith y b L r hh ∈ lw_all) : GoodIn lw_all (wsW_ y b L r hh) := by
  intro w hw
  rcases List.mem_cons.mp hw with e | e
  · rw [e]
    exact lw_self _ h
  · exact lw_self _ e
/-- any list of words by their places (lw_in), good -/
theorem lw_good {ws : List Cond} (h : ∀ w ∈ ws, w ∈ lw_all) : GoodIn lw_all ws := fun w hw => lw_self w (h w hw)
/-- what a call of a method with handlers asks: vx_cwVW n hts (lw_VW ..), vx_cwSW n hts (lw_SW ..) -/
theorem lw_VW {own : String} {idx : Nat} {C : String} {y : MethodName} {b : ByteArray} {L : Nat} {r : Option FieldType} {hh : List (Nat × Nat × Nat × Nat)} (h1 : Cond.methodLink own idx y ∈ lw_all) (h2 : Cond.instanceMethod y ∈ lw_all) (h3 : Cond.selects C y y ∈ lw_all) (h4 : Cond.initialized C ∈ lw_all) (h5 : Cond.codeWith y b L r hh ∈ lw_all) : GoodIn lw_all (wsV own idx C y (wsW_ y b L r hh)) := by
  refine lw_app ?_ (lw_methW h5)
  intro w hw
  simp only [List.mem_cons, List.not_mem_nil, or_false] at hw
  rcases hw with e | e | e | e
  · rw [e]; exact h1
  · rw [e]; exact h2
  · rw [e]; exact h3
  · rw [e]; exact h4
theorem lw_SW {own : String} {idx : Nat} {y : MethodName} {b : ByteArray} {L : Nat} {r : Option FieldType} {hh : List (Nat × Nat × Nat × Nat)} (h1 : Cond.methodLink own idx y ∈ lw_all) (h2 : Cond.static y ∈ lw_all) (h3 : Cond.initialized y.cls ∈ lw_all) (h4 : Cond.codeWith y b L r hh ∈ lw_all) : GoodIn lw_all (va_wsS own idx y (wsW_ y b L r hh)) := by
  refine lw_app ?_ (lw_methW h4)
  intro w hw
  simp only [List.mem_cons, List.not_mem_nil, or_false] at hw
  rcases hw with e | e | e
  · rw [e]; exact h1
  · rw [e]; exact h2
  · rw [e]; exact h3
/-- a word by its place in its run of the tables -/
theorem lw_at {r : List Cond} (hr : ∀ w ∈ r, w ∈ lw_tbl) {w : Cond} (i : Nat) (h : r[i]? = some w) : w ∈ lw_tbl := hr w (List.mem_of_getElem? h)
theorem lw_g {w : Cond} (h : w ∈ lw_tbl) (g : goodWord w = true) : w ∈ lw_all := List.mem_filter.mpr ⟨h, g⟩
theorem lw_ms : ∀ w ∈ k2_sels lw_privs, w ∈ lw_tbl := fun w h => show w ∈ k2_sels lw_privs ++ tables_1 from List.mem_append_left _ h
theorem lw_m1 : ∀ w ∈ tables_1_1, w ∈ lw_tbl := fun w h => show w ∈ k2_sels lw_privs ++ tables_1 from List.mem_append_right (k2_sels lw_privs) (show w ∈ tables_1 from List.mem_append_left _ h)
theorem lw_m2 : ∀ w ∈ tables_1_2, w ∈ lw_tbl := fun w h => show w ∈ k2_sels lw_privs ++ tables_1 from List.mem_append_right (k2_sels lw_privs) (show w ∈ tables_1 from List.mem_append_right _ (List.mem_append_left _ h))
theorem lw_m3 : ∀ w ∈ tables_1_3, w ∈ lw_tbl := fun w h => show w ∈ k2_sels lw_privs ++ tables_1 from List.mem_append_right (k2_sels lw_privs) (show w ∈ tables_1 from List.mem_append_right _ (List.mem_append_right _ (List.mem_append_left _ h)))
theorem lw_m4 : ∀ w ∈ tables_1_4, w ∈ lw_tbl := fun w h => show w ∈ k2_sels lw_privs ++ tables_1 from List.mem_append_right (k2_sels lw_privs) (show w ∈ tables_1 from List.mem_append_right _ (List.mem_append_right _ (List.mem_append_right _ (List.mem_append_left _ h))))
theorem lw_m5 : ∀ w ∈ tables_1_5, w ∈ lw_tbl := fun w h => show w ∈ k2_sels lw_privs ++ tables_1 from List.mem_append_right (k2_sels lw_privs) (show w ∈ tables_1 from List.mem_append_right _ (List.mem_append_right _ (List.mem_append_right _ (List.mem_append_right _ (List.mem_append_left _ h)))))
theorem lw_m6 : ∀ w ∈ tables_1_6, w ∈ lw_tbl := fun w h => show w ∈ k2_sels lw_privs ++ tables_1 from List.mem_append_right (k2_sels lw_privs) (show w ∈ tables_1 from List.mem_append_right _ (List.mem_append_right _ (List.mem_append_right _ (List.mem_append_right _ (List.mem_append_right _ (List.mem_append_left _ h))))))
theorem lw_m7 : ∀ w ∈ tables_1_7, w ∈ lw_tbl := fun w h => show w ∈ k2_sels lw_privs ++ tables_1 from List.mem_append_right (k2_sels lw_privs) (show w ∈ tables_1 from List.mem_append_right _ (List.mem_append_right _ (List.mem_append_right _ (List.mem_append_right _ (List.mem_append_right _ (List.mem_append_right _ (List.mem_append_left _ h)))))))
theorem lw_m8 : ∀ w ∈ tables_1_8, w ∈ lw_tbl := fun w h => show w ∈ k2_sels lw_privs ++ tables_1 from List.mem_append_right (k2_sels lw_privs) (show w ∈ tables_1 from List.mem_append_right _ (List.mem_append_right _ (List.mem_append_right _ (List.mem_append_right _ (List.mem_append_right _ (List.mem_append_right _ (List.mem_append_right _ h)))))))
theorem qs0 : (Cond.selects "java/lang/Throwable" ⟨"java/lang/Throwable", "fillInStackTrace", "(I)Ljava/lang/Throwable;"⟩ ⟨"java/lang/Throwable", "fillInStackTrace", "(I)Ljava/lang/Throwable;"⟩) ∈ lw_all := lw_g (lw_at lw_ms 0 rfl) rfl
theorem qs1 : (Cond.selects "WellNames" ⟨"WellNames", "need", "(ZI)V"⟩ ⟨"WellNames", "need", "(ZI)V"⟩) ∈ lw_all := lw_g (lw_at lw_ms 1 rfl) rfl
theorem qs2 : (Cond.selects "WellNames" ⟨"WellNames", "finds", "(LWellNames$Finding;)I"⟩ ⟨"WellNames", "finds", "(LWellNames$Finding;)I"⟩) ∈ lw_all := lw_g (lw_at lw_ms 2 rfl) rfl
theorem qs3 : (Cond.selects "WellNames" ⟨"WellNames", "personAt", "(IZ)LWellNames$Drinker;"⟩ ⟨"WellNames", "personAt", "(IZ)LWellNames$Drinker;"⟩) ∈ lw_all := lw_g (lw_at lw_ms 3 rfl) rfl
theorem qs4 : (Cond.selects "WellNames" ⟨"WellNames", "isPerson", "(I)Z"⟩ ⟨"WellNames", "isPerson", "(I)Z"⟩) ∈ lw_all := lw_g (lw_at lw_ms 4 rfl) rfl
theorem qs5 : (Cond.selects "WellNames$Reader" ⟨"WellNames$Reader", "either", "()LWellNames$Term;"⟩ ⟨"WellNames$Reader", "either", "()LWellNames$Term;"⟩) ∈ lw_all := lw_g (lw_at lw_ms 5 rfl) rfl
theorem qs6 : (Cond.selects "WellNames$Reader" ⟨"WellNames$Reader", "both", "()LWellNames$Term;"⟩ ⟨"WellNames$Reader", "both", "()LWellNames$Term;"⟩) ∈ lw_all := lw_g (lw_at lw_ms 6 rfl) rfl
theorem qs7 : (Cond.selects "WellNames$Reader" ⟨"WellNames$Reader", "relation", "()LWellNames$Term;"⟩ ⟨"WellNames$Reader", "relation", "()LWellNames$Term;"⟩) ∈ lw_all := lw_g (lw_at lw_ms 7 rfl) rfl
theorem qs8 : (Cond.selects "WellNames$Reader" ⟨"WellNames$Reader", "sum", "()LWellNames$Term;"⟩ ⟨"WellNames$Reader", "sum", "()LWellNames$Term;"⟩) ∈ lw_all := lw_g (lw_at lw_ms 8 rfl) rfl
theorem qs9 : (Cond.selects "WellNames$Reader" ⟨"WellNames$Reader", "product", "()LWellNames$Term;"⟩ ⟨"WellNames$Reader", "product", "()LWellNames$Term;"⟩) ∈ lw_all := lw_g (lw_at lw_ms 9 rfl) rfl
theorem qs10 : (Cond.selects "WellNames$Reader" ⟨"WellNames$Reader", "single", "()LWellNames$Term;"⟩ ⟨"WellNames$Reader", "single", "()LWellNames$Term;"⟩) ∈ lw_all := lw_g (lw_at lw_ms 10 rfl) rfl
theorem qs11 : (Cond.selects "WellNames$Reader" ⟨"WellNames$Reader", "isOne", "(Ljava/lang/String;)Z"⟩ ⟨"WellNames$Reader", "isOne", "(Ljava/lang/String;)Z"⟩) ∈ lw_all := lw_g (lw_at lw_ms 11 rfl) rfl
theorem qs12 : (Cond.selects "WellNames$Reader" ⟨"WellNames$Reader", "look", "()I"⟩ ⟨"WellNames$Reader", "look", "()I"⟩) ∈ lw_all := lw_g (lw_at lw_ms 12 rfl) rfl
theorem qs13 : (Cond.selects "WellNames$Reader" ⟨"WellNames$Reader", "opens", "()V"⟩ ⟨"WellNames$Reader", "opens", "()V"⟩) ∈ lw_all := lw_g (lw_at lw_ms 13 rfl) rfl
theorem qs14 : (Cond.selects "WellNames$Reader" ⟨"WellNames$Reader", "fault", "(Z)V"⟩ ⟨"WellNames$Reader", "fault", "(Z)V"⟩) ∈ lw_all := lw_g (lw_at lw_ms 14 rfl) rfl
theorem qs15 : (Cond.selects "WellNames$Desert" ⟨"WellNames$Desert", "thirsts", "(II)V"⟩ ⟨"WellNames$Desert", "thirsts", "(II)V"⟩) ∈ lw_all := lw_g (lw_at lw_ms 15 rfl) rfl
theorem qs16 : (Cond.selects "WellNames" ⟨"WellNames", "mustGo", "(II)V"⟩ ⟨"WellNames", "mustGo", "(II)V"⟩) ∈ lw_all := lw_g (lw_at lw_ms 16 rfl) rfl
theorem qs17 : (Cond.selects "WellNames" ⟨"WellNames", "waysTo", "(IIIZ)I"⟩ ⟨"WellNames", "waysTo", "(IIIZ)I"⟩) ∈ lw_all := lw_g (lw_at lw_ms 17 rfl) rfl
theorem qs18 : (Cond.selects "WellNames" ⟨"WellNames", "findsWays", "(II)V"⟩ ⟨"WellNames", "findsWays", "(II)V"⟩) ∈ lw_all := lw_g (lw_at lw_ms 18 rfl) rfl
theorem qs19 : (Cond.selects "WellNames" ⟨"WellNames", "goesOn", "(IIII)Z"⟩ ⟨"WellNames", "goesOn", "(IIII)Z"⟩) ∈ lw_all := lw_g (lw_at lw_ms 19 rfl) rfl
theorem qs20 : (Cond.selects "WellNames" ⟨"WellNames", "mayDrink", "(III)Z"⟩ ⟨"WellNames", "mayDrink", "(III)Z"⟩) ∈ lw_all := lw_g (lw_at lw_ms 20 rfl) rfl
theorem qs21 : (Cond.selects "WellNames" ⟨"WellNames", "comes", "(III)Z"⟩ ⟨"WellNames", "comes", "(III)Z"⟩) ∈ lw_all := lw_g (lw_at lw_ms 21 rfl) rfl
theorem qs22 : (Cond.selects "WellNames" ⟨"WellNames", "leastAt", "(I)I"⟩ ⟨"WellNames", "leastAt", "(I)I"⟩) ∈ lw_all := lw_g (lw_at lw_ms 22 rfl) rfl
theorem qs23 : (Cond.selects "WellNames" ⟨"WellNames", "reached", "()I"⟩ ⟨"WellNames", "reached", "()I"⟩) ∈ lw_all := lw_g (lw_at lw_ms 23 rfl) rfl
theorem qs24 : (Cond.selects "WellNames" ⟨"WellNames", "walkOf", "(I)LWellNames$Sheet;"⟩ ⟨"WellNames", "walkOf", "(I)LWellNames$Sheet;"⟩) ∈ lw_all := lw_g (lw_at lw_ms 24 rfl) rfl
theorem qs25 : (Cond.selects "WellNames" ⟨"WellNames", "sheetAt", "(I)LWellNames$Sheet;"⟩ ⟨"WellNames", "sheetAt", "(I)LWellNames$Sheet;"⟩) ∈ lw_all := lw_g (lw_at lw_ms 25 rfl) rfl
theorem qs26 : (Cond.selects "WellNamesModel" ⟨"WellNamesModel", "becomes", "(II)I"⟩ ⟨"WellNamesModel", "becomes", "(II)I"⟩) ∈ lw_all := lw_g (lw_at lw_ms 26 rfl) rfl
theorem qs27 : (Cond.selects "WellNamesModel" ⟨"WellNamesModel", "errs", "(I)I"⟩ ⟨"WellNamesModel", "errs", "(I)I"⟩) ∈ lw_all := lw_g (lw_at lw_ms 27 rfl) rfl
theorem qs28 : (Cond.selects "WellNamesModel" ⟨"WellNamesModel", "roadsOf", "(I)I"⟩ ⟨"WellNamesModel", "roadsOf", "(I)I"⟩) ∈ lw_all := lw_g (lw_at lw_ms 28 rfl) rfl
theorem qs29 : (Cond.selects "WellNamesModel" ⟨"WellNamesModel", "roadOf", "(II)I"⟩ ⟨"WellNamesModel", "roadOf", "(II)I"⟩) ∈ lw_all := lw_g (lw_at lw_ms 29 rfl) rfl
theorem qs30 : (Cond.selects "WellNamesModel" ⟨"WellNamesModel", "those", "(II)I"⟩ ⟨"WellNamesModel", "those", "(II)I"⟩) ∈ lw_all := lw_g (lw_at lw_ms 30 rfl) rfl
theorem qs31 : (Cond.selects "WellNamesModel" ⟨"WellNamesModel", "its", "(II)I"⟩ ⟨"WellNamesModel", "its", "(II)I"⟩) ∈ lw_all := lw_g (lw_at lw_ms 31 rfl) rfl
theorem qs32 : (Cond.selects "WellNamesModel" ⟨"WellNamesModel", "owes", "(I)I"⟩ ⟨"WellNamesModel", "owes", "(I)I"⟩) ∈ lw_all := lw_g (lw_at lw_ms 32 rfl) rfl
theorem qs33 : (Cond.selects "WellNamesModel" ⟨"WellNamesModel", "isPerson", "(I)Z"⟩ ⟨"WellNamesModel", "isPerson", "(I)Z"⟩) ∈ lw_all := lw_g (lw_at lw_ms 33 rfl) rfl
theorem qs34 : (Cond.selects "WellNamesModel" ⟨"WellNamesModel", "limitOf", "(I)I"⟩ ⟨"WellNamesModel", "limitOf", "(I)I"⟩) ∈ lw_all := lw_g (lw_at lw_ms 34 rfl) rfl
theorem qs35 : (Cond.selects "WellNamesModel" ⟨"WellNamesModel", "needsOf", "(II)I"⟩ ⟨"WellNamesModel", "needsOf", "(II)I"⟩) ∈ lw_all := lw_g (lw_at lw_ms 35 rfl) rfl
theorem qs36 : (Cond.selects "WellNamesModel" ⟨"WellNamesModel", "needed", "(III)I"⟩ ⟨"WellNamesModel", "needed", "(III)I"⟩) ∈ lw_all := lw_g (lw_at lw_ms 36 rfl) rfl
theorem qs37 : (Cond.selects "WellNamesModel" ⟨"WellNamesModel", "worked", "(IIII)I"⟩ ⟨"WellNamesModel", "worked", "(IIII)I"⟩) ∈ lw_all := lw_g (lw_at lw_ms 37 rfl) rfl
theorem qs38 : (Cond.selects "WellNamesModel" ⟨"WellNamesModel", "readsText", "(IIIIII)I"⟩ ⟨"WellNamesModel", "readsText", "(IIIIII)I"⟩) ∈ lw_all := lw_g (lw_at lw_ms 38 rfl) rfl
theorem qs39 : (Cond.selects "WellNamesModel" ⟨"WellNamesModel", "any", "()I"⟩ ⟨"WellNamesModel", "any", "()I"⟩) ∈ lw_all := lw_g (lw_at lw_ms 39 rfl) rfl
theorem qs40 : (Cond.selects "WellNamesModel" ⟨"WellNamesModel", "both", "()I"⟩ ⟨"WellNamesModel", "both", "()I"⟩) ∈ lw_all := lw_g (lw_at lw_ms 40 rfl) rfl
theorem qs41 : (Cond.selects "WellNamesModel" ⟨"WellNamesModel", "test", "()I"⟩ ⟨"WellNamesModel", "test", "()I"⟩) ∈ lw_all := lw_g (lw_at lw_ms 41 rfl) rfl
theorem qs42 : (Cond.selects "WellNamesModel" ⟨"WellNamesModel", "sum", "()I"⟩ ⟨"WellNamesModel", "sum", "()I"⟩) ∈ lw_all := lw_g (lw_at lw_ms 42 rfl) rfl
theorem qs43 : (Cond.selects "WellNamesModel" ⟨"WellNamesModel", "product", "()I"⟩ ⟨"WellNamesModel", "product", "()I"⟩) ∈ lw_all := lw_g (lw_at lw_ms 43 rfl) rfl
theorem qs44 : (Cond.selects "WellNamesModel" ⟨"WellNamesModel", "single", "()I"⟩ ⟨"WellNamesModel", "single", "()I"⟩) ∈ lw_all := lw_g (lw_at lw_ms 44 rfl) rfl
theorem qs45 : (Cond.selects "WellNamesModel" ⟨"WellNamesModel", "here", "()I"⟩ ⟨"WellNamesModel", "here", "()I"⟩) ∈ lw_all := lw_g (lw_at lw_ms 45 rfl) rfl
theorem qs46 : (Cond.selects "WellNamesModel" ⟨"WellNamesModel", "name", "(I)I"⟩ ⟨"WellNamesModel", "name", "(I)I"⟩) ∈ lw_all := lw_g (lw_at lw_ms 46 rfl) rfl
theorem qs47 : (Cond.selects "WellNamesModel" ⟨"WellNamesModel", "takes", "(I)Z"⟩ ⟨"WellNamesModel", "takes", "(I)Z"⟩) ∈ lw_all := lw_g (lw_at lw_ms 47 rfl) rfl
theorem qs48 : (Cond.selects "WellNamesModel" ⟨"WellNamesModel", "parched", "(III)I"⟩ ⟨"WellNamesModel", "parched", "(III)I"⟩) ∈ lw_all := lw_g (lw_at lw_ms 48 rfl) rfl
theorem qs49 : (Cond.selects "WellNamesModel" ⟨"WellNamesModel", "calledOf", "(II)I"⟩ ⟨"WellNamesModel", "calledOf", "(II)I"⟩) ∈ lw_all := lw_g (lw_at lw_ms 49 rfl) rfl
theorem qs50 : (Cond.selects "WellNamesModel" ⟨"WellNamesModel", "thirstBy", "(II)I"⟩ ⟨"WellNamesModel", "thirstBy", "(II)I"⟩) ∈ lw_all := lw_g (lw_at lw_ms 50 rfl) rfl
theorem qs51 : (Cond.selects "WellNamesModel" ⟨"WellNamesModel", "dies", "(I)V"⟩ ⟨"WellNamesModel", "dies", "(I)V"⟩) ∈ lw_all := lw_g (lw_at lw_ms 51 rfl) rfl
theorem qs52 : (Cond.selects "WellNamesModel" ⟨"WellNamesModel", "wrongDays", "(II)I"⟩ ⟨"WellNamesModel", "wrongDays", "(II)I"⟩) ∈ lw_all := lw_g (lw_at lw_ms 52 rfl) rfl
theorem qs53 : (Cond.selects "WellNamesModel" ⟨"WellNamesModel", "day", "()V"⟩ ⟨"WellNamesModel", "day", "()V"⟩) ∈ lw_all := lw_g (lw_at lw_ms 53 rfl) rfl
theorem qs54 : (Cond.selects "WellNamesModel" ⟨"WellNamesModel", "dead", "()I"⟩ ⟨"WellNamesModel", "dead", "()I"⟩) ∈ lw_all := lw_g (lw_at lw_ms 54 rfl) rfl
theorem qs55 : (Cond.selects "WellNamesModel" ⟨"WellNamesModel", "draw", "()I"⟩ ⟨"WellNamesModel", "draw", "()I"⟩) ∈ lw_all := lw_g (lw_at lw_ms 55 rfl) rfl
theorem qs56 : (Cond.selects "WellNamesModel" ⟨"WellNamesModel", "way", "(IIIZ)I"⟩ ⟨"WellNamesModel", "way", "(IIIZ)I"⟩) ∈ lw_all := lw_g (lw_at lw_ms 56 rfl) rfl
theorem qs57 : (Cond.selects "WellNamesModel" ⟨"WellNamesModel", "wrongWay", "(IZ)I"⟩ ⟨"WellNamesModel", "wrongWay", "(IZ)I"⟩) ∈ lw_all := lw_g (lw_at lw_ms 57 rfl) rfl
theorem qs58 : (Cond.selects "WellNamesModel" ⟨"WellNamesModel", "spreads", "(IIZ)V"⟩ ⟨"WellNamesModel", "spreads", "(IIZ)V"⟩) ∈ lw_all := lw_g (lw_at lw_ms 58 rfl) rfl
theorem qs59 : (Cond.selects "WellNamesModel" ⟨"WellNamesModel", "lessens", "(III)Z"⟩ ⟨"WellNamesModel", "lessens", "(III)Z"⟩) ∈ lw_all := lw_g (lw_at lw_ms 59 rfl) rfl
theorem qs60 : (Cond.selects "WellNamesModel" ⟨"WellNamesModel", "mayDrink", "(III)Z"⟩ ⟨"WellNamesModel", "mayDrink", "(III)Z"⟩) ∈ lw_all := lw_g (lw_at lw_ms 60 rfl) rfl
theorem qs61 : (Cond.selects "WellNamesModel" ⟨"WellNamesModel", "leastAt", "(I)I"⟩ ⟨"WellNamesModel", "leastAt", "(I)I"⟩) ∈ lw_all := lw_g (lw_at lw_ms 61 rfl) rfl
theorem qs62 : (Cond.selects "WellNamesModel" ⟨"WellNamesModel", "reached", "(II)I"⟩ ⟨"WellNamesModel", "reached", "(II)I"⟩) ∈ lw_all := lw_g (lw_at lw_ms 62 rfl) rfl
theorem qs63 : (Cond.selects "WellNamesModel" ⟨"WellNamesModel", "isWalk", "(I)Z"⟩ ⟨"WellNamesModel", "isWalk", "(I)Z"⟩) ∈ lw_all := lw_g (lw_at lw_ms 63 rfl) rfl
theorem qs64 : (Cond.selects "WellNamesModel" ⟨"WellNamesModel", "readsBy", "(I)I"⟩ ⟨"WellNamesModel", "readsBy", "(I)I"⟩) ∈ lw_all := lw_g (lw_at lw_ms 64 rfl) rfl
theorem qs65 : (Cond.selects "WellNamesModel" ⟨"WellNamesModel", "plainReads", "(I)I"⟩ ⟨"WellNamesModel", "plainReads", "(I)I"⟩) ∈ lw_all := lw_g (lw_at lw_ms 65 rfl) rfl
theorem qs66 : (Cond.selects "WellNamesModel" ⟨"WellNamesModel", "ran", "(I)V"⟩ ⟨"WellNamesModel", "ran", "(I)V"⟩) ∈ lw_all := lw_g (lw_at lw_ms 66 rfl) rfl
theorem qs67 : (Cond.selects "WellNamesModel" ⟨"WellNamesModel", "givesBy", "(I)I"⟩ ⟨"WellNamesModel", "givesBy", "(I)I"⟩) ∈ lw_all := lw_g (lw_at lw_ms 67 rfl) rfl
theorem qs68 : (Cond.selects "WellNamesModel" ⟨"WellNamesModel", "poemGives", "(I)I"⟩ ⟨"WellNamesModel", "poemGives", "(I)I"⟩) ∈ lw_all := lw_g (lw_at lw_ms 68 rfl) rfl
theorem qs69 : (Cond.selects "WellNamesModel" ⟨"WellNamesModel", "plainGives", "(I)I"⟩ ⟨"WellNamesModel", "plainGives", "(I)I"⟩) ∈ lw_all := lw_g (lw_at lw_ms 69 rfl) rfl
theorem qs70 : (Cond.selects "WellNamesModel" ⟨"WellNamesModel", "takesBy", "(I)I"⟩ ⟨"WellNamesModel", "takesBy", "(I)I"⟩) ∈ lw_all := lw_g (lw_at lw_ms 70 rfl) rfl
theorem qs71 : (Cond.selects "WellNamesModel" ⟨"WellNamesModel", "lawTakes", "(I)I"⟩ ⟨"WellNamesModel", "lawTakes", "(I)I"⟩) ∈ lw_all := lw_g (lw_at lw_ms 71 rfl) rfl
theorem qs72 : (Cond.selects "WellNamesModel" ⟨"WellNamesModel", "plainTakes", "(I)I"⟩ ⟨"WellNamesModel", "plainTakes", "(I)I"⟩) ∈ lw_all := lw_g (lw_at lw_ms 72 rfl) rfl
theorem qs73 : (Cond.selects "WellNamesModel" ⟨"WellNamesModel", "tellsBy", "(I)I"⟩ ⟨"WellNamesModel", "tellsBy", "(I)I"⟩) ∈ lw_all := lw_g (lw_at lw_ms 73 rfl) rfl
theorem qs74 : (Cond.selects "WellNamesModel" ⟨"WellNamesModel", "plainTells", "(I)I"⟩ ⟨"WellNamesModel", "plainTells", "(I)I"⟩) ∈ lw_all := lw_g (lw_at lw_ms 74 rfl) rfl
theorem qs75 : (Cond.selects "WellNamesModel" ⟨"WellNamesModel", "wrong", "(I)I"⟩ ⟨"WellNamesModel", "wrong", "(I)I"⟩) ∈ lw_all := lw_g (lw_at lw_ms 75 rfl) rfl
theorem qs76 : (Cond.selects "WellNamesModel" ⟨"WellNamesModel", "laysAside", "()V"⟩ ⟨"WellNamesModel", "laysAside", "()V"⟩) ∈ lw_all := lw_g (lw_at lw_ms 76 rfl) rfl
theorem qs77 : (Cond.selects "WellNamesModel" ⟨"WellNamesModel", "takesBack", "(I)I"⟩ ⟨"WellNamesModel", "takesBack", "(I)I"⟩) ∈ lw_all := lw_g (lw_at lw_ms 77 rfl) rfl
theorem qs78 : (Cond.selects "WellNamesModel" ⟨"WellNamesModel", "sum", "(II)I"⟩ ⟨"WellNamesModel", "sum", "(II)I"⟩) ∈ lw_all := lw_g (lw_at lw_ms 78 rfl) rfl
