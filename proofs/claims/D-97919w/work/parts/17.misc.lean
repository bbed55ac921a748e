/-! ===== other rows: Object's constructor, statics, text, casts, arraycopy, the script ===== -/
def pC (h : AH) (dst src n : Nat) : AH := (fun b j => if b = dst then (if j < n then h.1 src j else h.1 b j) else h.1 b j, h.2)
def pCR (h : AH) (dst src n : Nat) : AH := (h.1, fun b j => if b = dst then (if j < n then h.2.1 src j else h.2.1 b j) else h.2.1 b j, h.2.2)
theorem gI_pC (h : AH) (dst src n b j : Nat) : gI (pC h dst src n) b j = if b = dst then (if j < n then gI h src j else gI h b j) else gI h b j := rfl
theorem gR_pCR (h : AH) (dst src n b j : Nat) : gR (pCR h dst src n) b j = if b = dst then (if j < n then gR h src j else gR h b j) else gR h b j := rfl
theorem obj_init_ok : (Cond.instanceMethod objectInit ∈ lw_all) ∧ (Cond.code objectInit ⟨#[0xb1]⟩ 1 none ∈ lw_all) := ⟨q122, q123⟩
section
variable {g : Gl} {M : MI} {d : Nat} {Q : Outcome → AH → Prop} {pc : Nat} {ls : List (Option Value)} {st : List Value} {h : AH}
theorem a_objInit {idx b : Nat} (hd : decode M.2.1 pc = .ok (.invokespecial idx, 3)) (hl : Cond.methodLink M.1.cls idx objectInit ∈ lw_all) (hd1 : 1 ≤ d) (hw : (st.map fun v => v.category).sum ≤ 40) (k : AW g M d Q (pc + 3) ls st h) : AW g M d Q pc ls (.ref b :: st) h := by
  intro p e R s m args below meth c h0 H locs lC hC hR hL
  have kk := k p e R s m args below meth c h0 H locs lC hC hR hL
  obtain ⟨hx, hb, hml, hex, hre, hlk, hnm0, hown, hS, hfr, hlo, -⟩ := id hC
  exact W.objInit hx hb hown (hS.1.1 _ hl args) (hS.1.1 _ obj_init_ok.1 args) (hS.1.1 _ obj_init_ok.2 args) rfl (by rw [hml]; exact hL.1) rfl hd (by omega) (by show 2 * 0 + _ + 12 ≤ _; rw [cat_map]; omega) kk
/-- getstatic of String.COMPACT_STRINGS -/
theorem a_getsCS {idx : Nat} (hd : decode M.2.1 pc = .ok (.getstatic idx, 3)) (hl : Cond.fieldLink M.1.cls idx "java/lang/String" "COMPACT_STRINGS" "Z" ∈ lw_all) (k : AW g M d Q (pc + 3) ls (.int 1 :: st) h) : AW g M d Q pc ls st h := by
  intro p e R s m args below meth c h0 H locs lC hC hR hL
  have kk := k p e R s m args below meth c h0 H locs lC hC hR hL
  obtain ⟨hx, hb, hml, hex, hre, hlk, hnm0, hown, hS, -⟩ := id hC
  exact va_gets hx hb hS.2.1.1 hR.2.1 hown (hS.1.1 _ hl args) (fun x hx => hx) hd kk
theorem a_getsUS {idx : Nat} (hd : decode M.2.1 pc = .ok (.getstatic idx, 3)) (hl : Cond.fieldLink M.1.cls idx "java/lang/Throwable" "UNASSIGNED_STACK" "[Ljava/lang/StackTraceElement;" ∈ lw_all) (k : ∀ r, AW g M d Q (pc + 3) ls (rfv r :: st) h) : AW g M d Q pc ls st h := by
  intro p e R s m args below meth c h0 H locs lC hC hR hL
  obtain ⟨hx, hb, hml, hex, hre, hlk, hnm0, hown, hS, -⟩ := id hC
  rcases hS.2.1.2.1 with hz | hz
  · have kk := k none p e R s m args below meth c h0 H locs lC hC hR hL
    exact va_gets hx hb hz hR.2.1 hown (hS.1.1 _ hl args) (fun x hx => hx) hd kk
  · have kk := k (some 20) p e R s m args below meth c h0 H locs lC hC hR hL
    exact va_gets hx hb hz hR.2.1 hown (hS.1.1 _ hl args) (fun x hx => hx) hd kk
theorem a_getsSS {idx : Nat} (hd : decode M.2.1 pc = .ok (.getstatic idx, 3)) (hl : Cond.fieldLink M.1.cls idx "java/lang/Throwable" "SUPPRESSED_SENTINEL" "Ljava/util/List;" ∈ lw_all) (k : ∀ r, AW g M d Q (pc + 3) ls (rfv r :: st) h) : AW g M d Q pc ls st h := by
  intro p e R s m args below meth c h0 H locs lC hC hR hL
  obtain ⟨hx, hb, hml, hex, hre, hlk, hnm0, hown, hS, -⟩ := id hC
  rcases hS.2.1.2.2.1 with hz | hz
  · have kk := k none p e R s m args below meth c h0 H locs lC hC hR hL
    exact va_gets hx hb hz hR.2.1 hown (hS.1.1 _ hl args) (fun x hx => hx) hd kk
  · have kk := k (some 21) p e R s m args below meth c h0 H locs lC hC hR hL
    exact va_gets hx hb hz hR.2.1 hown (hS.1.1 _ hl args) (fun x hx => hx) hd kk
theorem a_ldcS {i : Nat} (hi : i < 9) (hd : decode M.2.1 pc = .ok (.ldc (sIdx i), 2)) (ho : M.1.cls = sOwn i) (k : AW g M d Q (pc + 2) ls (.ref i :: st) h) : AW g M d Q pc ls st h := by
  intro p e R s m args below meth c h0 H locs lC hC hR hL
  have kk := k p e R s m args below meth c h0 H locs lC hC hR hL
  obtain ⟨hx, hb, hml, hex, hre, hlk, hnm0, hown, hS, -⟩ := id hC
  rw [ho] at hown
  exact va_ldcS hx hb hown (hS.1.2.2.2.2.2.2.1 i hi) hd kk
theorem a_strV {i idx : Nat} (hi : i < 9) (hd : decode M.2.1 pc = .ok (.getfield idx, 3)) (hl : Cond.fieldLink M.1.cls idx "java/lang/String" "value" "[B" ∈ lw_all) (k : AW g M d Q (pc + 3) ls (.ref (10 + i) :: st) h) : AW g M d Q pc ls (.ref i :: st) h := by
  intro p e R s m args below meth c h0 H locs lC hC hR hL
  have kk := k p e R s m args below meth c h0 H locs lC hC hR hL
  obtain ⟨hx, hb, hml, hex, hre, hlk, hnm0, hown, hS, -⟩ := id hC
  exact vk_getf hx hb (hS.2.1.2.2.2.1.1 i hi).2.2.1 hR.2.1 hown (hS.1.1 _ hl args) (fun x hx => hx) hd kk
theorem a_strC {i idx : Nat} (hi : i < 9) (hd : decode M.2.1 pc = .ok (.getfield idx, 3)) (hl : Cond.fieldLink M.1.cls idx "java/lang/String" "coder" "B" ∈ lw_all) (k : AW g M d Q (pc + 3) ls (.int 0 :: st) h) : AW g M d Q pc ls (.ref i :: st) h := by
  intro p e R s m args below meth c h0 H locs lC hC hR hL
  have kk := k p e R s m args below meth c h0 H locs lC hC hR hL
  obtain ⟨hx, hb, hml, hex, hre, hlk, hnm0, hown, hS, -⟩ := id hC
  exact vk_getf hx hb (hS.2.1.2.2.2.1.1 i hi).2.1 hR.2.1 hown (hS.1.1 _ hl args) (fun x hx => hx) hd kk
theorem a_strL {i : Nat} {v : Int32} (hi : i < 9) (hd : decode M.2.1 pc = .ok (.arraylength, 1)) (hv : Int32.ofNat (sLen.getD i 0) = v) (k : AW g M d Q (pc + 1) ls (.int v :: st) h) : AW g M d Q pc ls (.ref (10 + i) :: st) h := by
  intro p e R s m args below meth c h0 H locs lC hC hR hL
  have kk := k p e R s m args below meth c h0 H locs lC hC hR hL
  obtain ⟨hx, hb, hml, hex, hre, hlk, hnm0, hown, hS, -⟩ := id hC
  exact va_tlen hx hb (hS.2.1.2.2.2.1.1 i hi).2.2.2 hR.2.1 hv hd kk
theorem a_strB {i : Nat} {j : Int32} (hi : i < 9) (hd : decode M.2.1 pc = .ok (.baload, 1)) (hj : vp_in j (sLen.getD i 0)) (k : AW g M d Q (pc + 1) ls (.int ((sByt.getD i []).getD j.toNatClampNeg 0) :: st) h) : AW g M d Q pc ls (.int j :: .ref (10 + i) :: st) h := by
  intro p e R s m args below meth c h0 H locs lC hC hR hL
  have kk := k p e R s m args below meth c h0 H locs lC hC hR hL
  obtain ⟨hx, hb, hml, hex, hre, hlk, hnm0, hown, hS, -⟩ := id hC
  exact va_tb hx hb (hS.2.1.2.2.2.1.1 i hi).2.2.2 hR.2.1 hj rfl hd kk
theorem a_sld {i : Int32} (hd : decode M.2.1 pc = .ok (.iaload, 1)) (hj : vp_in i (gL g)) (k : AW g M d Q (pc + 1) ls (.int (gX g i.toNatClampNeg) :: st) h) : AW g M d Q pc ls (.int i :: .ref 22 :: st) h := by
  intro p e R s m args below meth c h0 H locs lC hC hR hL
  have kk := k p e R s m args below meth c h0 H locs lC hC hR hL
  obtain ⟨hx, hb, hml, hex, hre, hlk, hnm0, hown, hS, -⟩ := id hC
  have hb2 : ad g 22 < gB g := hS.2.2.1.2 22 (by decide)
  exact va_sld hx hb hS.2.1.2.2.2.2 (by rw [hS.2.2.2.1.2.1]; omega) (fun z => absurd hb2 (Nat.not_lt.mpr z)) hR.2.1 hj hd kk
theorem a_slen (hd : decode M.2.1 pc = .ok (.arraylength, 1)) (k : AW g M d Q (pc + 1) ls (.int (Int32.ofNat (gL g)) :: st) h) : AW g M d Q pc ls (.ref 22 :: st) h := by
  intro p e R s m args below meth c h0 H locs lC hC hR hL
  have kk := k p e R s m args below meth c h0 H locs lC hC hR hL
  obtain ⟨hx, hb, hml, hex, hre, hlk, hnm0, hown, hS, -⟩ := id hC
  have hb2 : ad g 22 < gB g := hS.2.2.1.2 22 (by decide)
  exact va_slen hx hb hS.2.1.2.2.2.2 (by rw [hS.2.2.2.1.2.1]; omega) (fun z => absurd hb2 (Nat.not_lt.mpr z)) hR.2.1 hd kk
theorem a_cast {idx b : Nat} {C nm : String} (hd : decode M.2.1 pc = .ok (.checkcast idx, 3)) (hl : Cond.classLink M.1.cls idx nm ∈ lw_all) (hc : Cond.castable C nm ∈ lw_tbl) (hr : Recv g h b C) (k : AW g M d Q (pc + 3) ls (.ref b :: st) h) : AW g M d Q pc ls (.ref b :: st) h := by
  intro p e R s m args below meth c h0 H locs lC hC hR hL
  have kk := k p e R s m args below meth c h0 H locs lC hC hR hL
  obtain ⟨hx, hb, hml, hex, hre, hlk, hnm0, hown, hS, -⟩ := id hC
  obtain ⟨cell, h1, h2, h3, -⟩ := hr s H locs h0 hS hR
  exact va_castY hx hb hown (hS.1.1 _ hl args) (hS.1.2.1 _ hc rfl) ⟨cell, h1, h2, h3⟩ hd kk
/-- System.arraycopy of n first places -/
def CpyOK (own : String) (idx : Nat) : Prop := Cond.methodLink own idx arraycopyName ∈ lw_all ∧ Cond.native arraycopyName ∈ lw_all ∧ Cond.static arraycopyName ∈ lw_all ∧ Cond.initialized "java/lang/System" ∈ lw_all
theorem cpy_words : nativeFrameWords "java/lang/System" "arraycopy" 5 ≤ 60 := by decide
theorem nnI (z : Int32) (hz : ¬ z < 0) : z.toInt = (z.toNatClampNeg : Int) := by
  have hz0 : (0 : Int) ≤ z.toInt := by
    have := Int32.not_lt.mp hz
    simpa using Int32.le_iff_toInt_le.mp this
  show z.toInt = ((z.toInt.toNat : Nat) : Int)
  omega
theorem a_copyI {idx a b t la lb N : Nat} {n : Int32} (hd : decode M.2.1 pc = .ok (.invokestatic idx, 3)) (hok : CpyOK M.1.cls idx) (hsa : gS h a = (t, la)) (ha : 30 ≤ a) (hna : a < gN h) (hsb : gS h b = (t, lb)) (hb0 : 30 ≤ b) (hnb : b < gN h) (h1 : 40 ≤ t) (h2 : t < 44) (hn : ¬ n < 0) (hN : n.toNatClampNeg = N) (hla : N ≤ la) (hlb : N ≤ lb) (hfit : ∀ i, i < N → fits (kA t) (.int (gI h a i)) = true) (hd2 : 2 ≤ d) (hw : (st.map fun v => v.category).sum ≤ 40)
    (k : AW g M d Q (pc + 3) ls st (pC h b a N)) : AW g M d Q pc ls (.int n :: .int 0 :: .ref b :: .int 0 :: .ref a :: st) h := by
  intro p e R s m args below meth c h0 H locs lC hC hR hL T hT X
  subst hT
  subst hN
  obtain ⟨hx, hb, hml, hex, hre, hlk, hnm0, hown, hS, hfr, hlo, -⟩ := id hC
  obtain ⟨w1, w2, w3, w4⟩ := hok
  have hc0 := Co.arrI hR.1 ha hna hsa h1 h2
  have hc1 := Co.arrI hR.1 hb0 hnb hsb h1 h2
  have hAr := (hS.1.2.2.2.2.1 t h1 (by omega)).1
  obtain ⟨-, k0, hk0, cm0, hkk0⟩ := hAr la (fun j => .int (gI h a j))
  obtain ⟨-, k1, hk1, cm1, hkk1⟩ := hAr lb (fun j => .int (gI h b j))
  have hprim : refKind (kA t) = false := by rcases (show t = 40 ∨ t = 41 ∨ t = 42 ∨ t = 43 by omega) with rfl | rfl | rfl | rfl <;> rfl
  have z0 : (0 : Int32).toNatClampNeg = 0 := by decide
  have hcw := cpy_words
  obtain ⟨vm', X', step⟩ := X.arraycopy hx hown (hS.1.1 _ w1 args) (hS.1.1 _ w2 args) (hS.1.1 _ w3 args) (hS.1.1 _ w4 args) (src := ad g a) (dst := ad g b) (cs := arrV (ca g t) la (fun j => .int (gI h a j))) (cd := arrV (ca g t) lb (fun j => .int (gI h b j))) (srcPos := 0) (destPos := 0) (n := n) hc0 hc1
    (fun _ z => by cases z) (fun _ z => by cases z) (fun z => by cases z) (fun z => by cases z) hk0 hk1 hkk0 hkk1 (by simp [hprim]) (by decide) (by decide) hn
    (by rw [nnI n hn, arrV_size]; show ¬ (0 : Int) + _ > _; omega)
    (by rw [nnI n hn, arrV_size]; show ¬ (0 : Int) + _ > _; omega)
    (fun vm₁ _ i hi => by
      have e : (arrV (ca g t) la (fun j => Value.int (gI h a j))).slots.getD ((0 : Int32).toNatClampNeg + i) .null = .int (gI h a i) := by
        rw [z0, Nat.zero_add, Array.getD_eq_getD_getElem?, arrV_read _ _ (by omega)]
        rfl
      rw [e]
      exact ⟨hfit i hi, trivial⟩)
    (g := F0 m pc lC (.int n :: .int 0 :: .ref (ad g b) :: .int 0 :: .ref (ad g a) :: st.map (trv (ad g)))) rfl (by rw [hml]; exact hL.1) (rest := st.map (trv (ad g))) rfl (by rw [hb]; exact hd) (by omega) (by show 2 * 0 + _ + _ ≤ _; rw [cat_map]; omega)
  have e1 : copied (arrV (ca g t) la (fun j => Value.int (gI h a j))) (arrV (ca g t) lb (fun j => Value.int (gI h b j))) 0 0 n = arrV (ca g t) lb (fun j => Value.int (gI (pC h b a n.toNatClampNeg) b j)) := by
    have e2 := va_copied (fun z => Value.int z) (ca g t) (ca g t) (n0 := la) (n1 := lb) (sp := (0 : Int32).toNatClampNeg) (dp := (0 : Int32).toNatClampNeg) (n := n.toNatClampNeg) (fun j => gI h a j) (fun j => gI h b j) (by rw [z0]; omega)
    refine Eq.trans e2 ?_
    congr 1
    funext j
    rw [gI_pC, if_pos rfl]
    unfold va_cpy
    rw [z0]
    by_cases hj : j < n.toNatClampNeg
    · rw [if_pos ⟨Nat.zero_le _, by omega⟩, if_pos hj, Nat.zero_add, Nat.sub_zero]
    · rw [if_neg (by omega), if_neg hj]
  rw [e1] at X' step
  have hl : ad g b < T.heap.size := (Array.getElem?_eq_some_iff.mp hc1).1
  have hq : ∀ q : Nat, q ≠ ad g b → (T.heap.setIfInBounds (ad g b) (arrV (ca g t) lb (fun j => Value.int (gI (pC h b a n.toNatClampNeg) b j))))[q]? = T.heap[q]? := fun q hq => by simp [Array.getElem?_setIfInBounds, Ne.symm hq]
  have hR' : Rt g h0 (pC h b a n.toNatClampNeg) s.heap (T.heap.setIfInBounds (ad g b) (arrV (ca g t) lb (fun j => Value.int (gI (pC h b a n.toNatClampNeg) b j)))) (locs ++ ((arrV (ca g t) la (fun j => Value.int (gI h a j))).stretch (0 : Int32).toNatClampNeg n.toNatClampNeg).zipIdx.map fun q => ⟨ad g b, (0 : Int32).toNatClampNeg + q.2⟩) := by
    obtain ⟨r1, r2, r3, r4, r5, r6⟩ := hR
    refine ⟨Co.put hS.2.2.1 hb0 r1 rfl rfl (fun b' j hb' => ⟨by rw [gI_pC, if_neg hb'], rfl⟩) (by simp) hq ?_, ⟨by simp; exact r2.1, fun q q1 q2 => ?_, fun q hq2 => ?_⟩, r3, r4, r5, r6⟩
    · refine Or.inr (Or.inl ⟨by show 40 ≤ (gS h b).1; rw [hsb]; exact h1, by show (gS h b).1 < 44; rw [hsb]; exact h2, ?_⟩)
      show _ = some (arrV (ca g (gS h b).1) (gS h b).2 _)
      rw [hsb]
      simp [Array.getElem?_setIfInBounds, hl]
    · rw [hq q (fun z => q2 (by rw [z]; exact hS.2.2.1.ge hb0))]
      exact r2.2.1 q q1 q2
    · rcases List.mem_append.mp hq2 with z | z
      · exact r2.2.2 q z
      · obtain ⟨y, -, hy⟩ := List.mem_map.mp z
        rw [← hy]
        exact hS.2.2.1.ge hb0
  obtain ⟨t2, a1, b1⟩ := k p e R s m args below meth c h0 _ _ lC hC hR' hL _ rfl X'
  exact ⟨t2, step t2 a1, b1⟩
theorem a_copyR {idx a b t la lb N : Nat} {n : Int32} (hd : decode M.2.1 pc = .ok (.invokestatic idx, 3)) (hok : CpyOK M.1.cls idx) (hsa : gS h a = (t, la)) (ha : 30 ≤ a) (hna : a < gN h) (hsb : gS h b = (t, lb)) (hb0 : 30 ≤ b) (hnb : b < gN h) (h1 : 44 ≤ t) (h2 : t < 47) (hn : ¬ n < 0) (hN : n.toNatClampNeg = N) (hla : N ≤ la) (hlb : N ≤ lb) (hel : ∀ i, i < N → ∀ y, gR h a i = some y → ∃ ty ly, gS h y = (ty, ly) ∧ 30 ≤ y ∧ y < gN h ∧ AstOK ty t) (hd2 : 2 ≤ d) (hw : (st.map fun v => v.category).sum ≤ 40)
    (k : AW g M d Q (pc + 3) ls st (pCR h b a N)) : AW g M d Q pc ls (.int n :: .int 0 :: .ref b :: .int 0 :: .ref a :: st) h := by
  intro p e R s m args below meth c h0 H locs lC hC hR hL T hT X
  subst hT
  subst hN
  obtain ⟨hx, hb, hml, hex, hre, hlk, hnm0, hown, hS, hfr, hlo, -⟩ := id hC
  obtain ⟨w1, w2, w3, w4⟩ := hok
  have hc0 := Co.arrR hR.1 ha hna hsa h1 h2
  have hc1 := Co.arrR hR.1 hb0 hnb hsb h1 h2
  have hAr := hS.1.2.2.2.2.1 t (by omega) h2
  obtain ⟨-, k0, hk0, cm0, hkk0⟩ := hAr.1 la (fun j => va_rf ((gR h a j).map (ad g)))
  obtain ⟨-, k1, hk1, cm1, hkk1⟩ := hAr.1 lb (fun j => va_rf ((gR h b j).map (ad g)))
  obtain ⟨C, hC2⟩ := kA_obj h1 h2
  have hRA := hAr.2
  rw [hC2] at hRA hkk0 hkk1
  obtain ⟨kAr, comp, r1, r2, r3, -⟩ := hRA
  have z0 : (0 : Int32).toNatClampNeg = 0 := by decide
  have hcw := cpy_words
  obtain ⟨vm', X', step⟩ := X.arraycopy hx hown (hS.1.1 _ w1 args) (hS.1.1 _ w2 args) (hS.1.1 _ w3 args) (hS.1.1 _ w4 args) (src := ad g a) (dst := ad g b) (cs := arrV (ca g t) la (fun j => va_rf ((gR h a j).map (ad g)))) (cd := arrV (ca g t) lb (fun j => va_rf ((gR h b j).map (ad g)))) (srcPos := 0) (destPos := 0) (n := n) hc0 hc1
    (fun _ z => by cases z) (fun _ z => by cases z) (fun z => by cases z) (fun z => by cases z) hk0 hk1 hkk0 hkk1 rfl (by decide) (by decide) hn
    (by rw [nnI n hn, arrV_size]; show ¬ (0 : Int) + _ > _; omega)
    (by rw [nnI n hn, arrV_size]; show ¬ (0 : Int) + _ > _; omega)
    (fun vm₁ hal i hi => by
      have e : (arrV (ca g t) la (fun j => va_rf ((gR h a j).map (ad g)))).slots.getD ((0 : Int32).toNatClampNeg + i) .null = va_rf ((gR h a i).map (ad g)) := by
        rw [z0, Nat.zero_add, Array.getD_eq_getD_getElem?, arrV_read _ _ (by omega)]
        rfl
      rw [e]
      cases hy : gR h a i with
      | none => exact ⟨rfl, trivial⟩
      | some y =>
        obtain ⟨ty, ly, y1, y2, y3, yok⟩ := hel i hi y hy
        obtain ⟨cellV, g1, g2, g3, -⟩ := Co.obj hR.1 y2 y3 y1 yok.1
        have hcls := (hS.1.2.2.2.1 ty yok.1).2
        obtain ⟨hfc, kB, hkB, -⟩ := id hcls
        cases hk1.symm.trans r1
        cases hkk1.symm.trans r2
        obtain ⟨kE, hkE, -⟩ := Vm.findClass_spec r3
        obtain ⟨kC', hkC', -⟩ := hal.2.2 _ _ hkB
        obtain ⟨kE', hkE', -⟩ := hal.2.2 _ _ hkE
        have hasg : s.vm.assignable cellV.cls cm1 = true := by
          rw [g2]
          rcases yok.2.2.2 with hq | ⟨C', hq, hww⟩
          · have e1 : C = kC ty := by have := hC2.symm.trans hq; injection this
            rw [e1] at r3
            have e2 : cm1 = dC g ty := Option.some.inj (r3.symm.trans hfc)
            rw [e2]
            exact va_assign hcls
          · have e1 : C = C' := by have := hC2.symm.trans hq; injection this
            subst e1
            obtain ⟨c0, t0, f1, f2, f3⟩ := Cond.castable_spec (va_Nw.use (A := args) rfl (hS.1.2.1 _ hww rfl))
            cases hfc.symm.trans f1
            cases r3.symm.trans f2
            exact f3
        refine ⟨rfl, cellV, g1, (fun q z => by rw [g3] at z; cases z), ⟨kC', by rw [g2]; exact hkC'⟩, ⟨kE', hkE'⟩, ?_⟩
        show vm₁.assignable _ _ = true
        rw [hal.assignable]
        exact hasg)
    (g := F0 m pc lC (.int n :: .int 0 :: .ref (ad g b) :: .int 0 :: .ref (ad g a) :: st.map (trv (ad g)))) rfl (by rw [hml]; exact hL.1) (rest := st.map (trv (ad g))) rfl (by rw [hb]; exact hd) (by omega) (by show 2 * 0 + _ + _ ≤ _; rw [cat_map]; omega)
  have e1 : copied (arrV (ca g t) la (fun j => va_rf ((gR h a j).map (ad g)))) (arrV (ca g t) lb (fun j => va_rf ((gR h b j).map (ad g)))) 0 0 n = arrV (ca g t) lb (fun j => va_rf ((gR (pCR h b a n.toNatClampNeg) b j).map (ad g))) := by
    have e2 := va_copied (fun z => va_rf (Option.map (ad g) z)) (ca g t) (ca g t) (n0 := la) (n1 := lb) (sp := (0 : Int32).toNatClampNeg) (dp := (0 : Int32).toNatClampNeg) (n := n.toNatClampNeg) (fun j => gR h a j) (fun j => gR h b j) (by rw [z0]; omega)
    refine Eq.trans e2 ?_
    congr 1
    funext j
    rw [gR_pCR, if_pos rfl]
    unfold va_cpy
    rw [z0]
    by_cases hj : j < n.toNatClampNeg
    · rw [if_pos ⟨Nat.zero_le _, by omega⟩, if_pos hj, Nat.zero_add, Nat.sub_zero]
    · rw [if_neg (by omega), if_neg hj]
  rw [e1] at X' step
  have hl : ad g b < T.heap.size := (Array.getElem?_eq_some_iff.mp hc1).1
  have hq : ∀ q : Nat, q ≠ ad g b → (T.heap.setIfInBounds (ad g b) (arrV (ca g t) lb (fun j => va_rf ((gR (pCR h b a n.toNatClampNeg) b j).map (ad g)))))[q]? = T.heap[q]? := fun q hq => by simp [Array.getElem?_setIfInBounds, Ne.symm hq]
  have hR' : Rt g h0 (pCR h b a n.toNatClampNeg) s.heap (T.heap.setIfInBounds (ad g b) (arrV (ca g t) lb (fun j => va_rf ((gR (pCR h b a n.toNatClampNeg) b j).map (ad g))))) (locs ++ ((arrV (ca g t) la (fun j => va_rf ((gR h a j).map (ad g)))).stretch (0 : Int32).toNatClampNeg n.toNatClampNeg).zipIdx.map fun q => ⟨ad g b, (0 : Int32).toNatClampNeg + q.2⟩) := by
    obtain ⟨r1, r2, r3, r4, r5, r6⟩ := hR
    refine ⟨Co.put hS.2.2.1 hb0 r1 rfl rfl (fun b' j hb' => ⟨rfl, by rw [gR_pCR, if_neg hb']⟩) (by simp) hq ?_, ⟨by simp; exact r2.1, fun q q1 q2 => ?_, fun q hq2 => ?_⟩, r3, r4, r5, r6⟩
    · refine Or.inr (Or.inr ⟨by show 44 ≤ (gS h b).1; rw [hsb]; exact h1, by show (gS h b).1 < 47; rw [hsb]; exact h2, ?_⟩)
      show _ = some (arrV (ca g (gS h b).1) (gS h b).2 _)
      rw [hsb]
      simp [Array.getElem?_setIfInBounds, hl]
    · rw [hq q (fun z => q2 (by rw [z]; exact hS.2.2.1.ge hb0))]
      exact r2.2.1 q q1 q2
    · rcases List.mem_append.mp hq2 with z | z
      · exact r2.2.2 q z
      · obtain ⟨y, -, hy⟩ := List.mem_map.mp z
        rw [← hy]
        exact hS.2.2.1.ge hb0
  obtain ⟨t2, a1, b1⟩ := k p e R s m args below meth c h0 _ _ lC hC hR' hL _ rfl X'
  exact ⟨t2, step t2 a1, b1⟩
end
