/-! ===== arrays and new objects ===== -/
theorem kdef : ∀ t, t < 25 → ∀ k, k < 25 → defaultValue (kY t k) = (if kF t k = true then Value.null else .int 0) := by decide +kernel
theorem kN_le : ∀ t, t < 25 → kN t ≤ 25 := by decide +kernel
theorem updV_int (f : Nat → Int32) (k : Nat) (x : Int32) : updV (fun j => Value.int (f j)) k (.int x) = fun j => Value.int (if j = k then x else f j) := by
  funext j
  unfold updV
  by_cases e : j = k
  · rw [if_pos e, if_pos e]
  · rw [if_neg e, if_neg e]
section
variable {g : Gl} {M : MI} {d : Nat} {Q : Outcome → AH → Prop} {pc : Nat} {ls : List (Option Value)} {st : List Value} {h : AH}
theorem arr_hin {cA : ClassId} {n : Nat} {f : Nat → Value} {i : Int32} (hin : vp_in i n) : ¬ (i < 0 ∨ (arrV cA n f).slots.size ≤ i.toNatClampNeg) := by rw [arrV_size]; exact hin
theorem arr_rd {cA : ClassId} {n : Nat} {f : Nat → Value} {i : Int32} (hin : vp_in i n) : (arrV cA n f).slots[i.toNatClampNeg]? = some (f i.toNatClampNeg) := arrV_read _ _ (Nat.not_le.mp fun q => hin (Or.inr q))
theorem a_iald {a len : Nat} {i : Int32} (hd : decode M.2.1 pc = .ok (.iaload, 1)) (hs : gS h a = (40, len)) (ha : 30 ≤ a) (hn : a < gN h) (hin : vp_in i len) (kk : AW g M d Q (pc + 1) ls (.int (gI h a i.toNatClampNeg) :: st) h) : AW g M d Q pc ls (.int i :: .ref a :: st) h := by
  intro p e R s m args below meth c h0 H locs lC hC hR hL
  have kk := kk p e R s m args below meth c h0 H locs lC hC hR hL
  exact W.iald hC.1 hC.2.1 (Co.arrI hR.1 ha hn hs (by decide) (by decide)) ((hC.2.2.2.2.2.2.2.2.1.1.2.2.2.2.1 40 (by decide) (by decide)).1 _ _) (fun z => by cases z) (arr_hin hin) (arr_rd hin) rfl rfl hd kk
theorem a_zald {a len : Nat} {i : Int32} (hd : decode M.2.1 pc = .ok (.baload, 1)) (hs : gS h a = (41, len)) (ha : 30 ≤ a) (hn : a < gN h) (hin : vp_in i len) (kk : AW g M d Q (pc + 1) ls (.int (gI h a i.toNatClampNeg) :: st) h) : AW g M d Q pc ls (.int i :: .ref a :: st) h := by
  intro p e R s m args below meth c h0 H locs lC hC hR hL
  have kk := kk p e R s m args below meth c h0 H locs lC hC hR hL
  exact W.zald hC.1 hC.2.1 (Co.arrI hR.1 ha hn hs (by decide) (by decide)) ((hC.2.2.2.2.2.2.2.2.1.1.2.2.2.2.1 41 (by decide) (by decide)).1 _ _) (fun z => by cases z) (arr_hin hin) (arr_rd hin) rfl rfl hd kk
theorem a_bald {a len : Nat} {i : Int32} (hd : decode M.2.1 pc = .ok (.baload, 1)) (hs : gS h a = (42, len)) (ha : 30 ≤ a) (hn : a < gN h) (hin : vp_in i len) (kk : AW g M d Q (pc + 1) ls (.int (gI h a i.toNatClampNeg) :: st) h) : AW g M d Q pc ls (.int i :: .ref a :: st) h := by
  intro p e R s m args below meth c h0 H locs lC hC hR hL
  have kk := kk p e R s m args below meth c h0 H locs lC hC hR hL
  exact W.bald hC.1 hC.2.1 (Co.arrI hR.1 ha hn hs (by decide) (by decide)) ((hC.2.2.2.2.2.2.2.2.1.1.2.2.2.2.1 42 (by decide) (by decide)).1 _ _) (fun z => by cases z) (arr_hin hin) (arr_rd hin) rfl rfl hd kk
theorem a_sald {a len : Nat} {i : Int32} (hd : decode M.2.1 pc = .ok (.saload, 1)) (hs : gS h a = (43, len)) (ha : 30 ≤ a) (hn : a < gN h) (hin : vp_in i len) (kk : AW g M d Q (pc + 1) ls (.int (gI h a i.toNatClampNeg) :: st) h) : AW g M d Q pc ls (.int i :: .ref a :: st) h := by
  intro p e R s m args below meth c h0 H locs lC hC hR hL
  have kk := kk p e R s m args below meth c h0 H locs lC hC hR hL
  exact W.sald hC.1 hC.2.1 (Co.arrI hR.1 ha hn hs (by decide) (by decide)) ((hC.2.2.2.2.2.2.2.2.1.1.2.2.2.2.1 43 (by decide) (by decide)).1 _ _) (fun z => by cases z) (arr_hin hin) (arr_rd hin) rfl rfl hd kk
theorem a_iast {a len : Nat} {i x : Int32} (hd : decode M.2.1 pc = .ok (.iastore, 1)) (hs : gS h a = (40, len)) (ha : 30 ≤ a) (hn : a < gN h) (hin : vp_in i len) (kk : AW g M d Q (pc + 1) ls st (pI h a i.toNatClampNeg (x))) : AW g M d Q pc ls (.int x :: .int i :: .ref a :: st) h := by
  intro p e R s m args below meth c h0 H locs lC hC hR hL
  refine W.iast hC.1 hC.2.1 (Co.arrI hR.1 ha hn hs (by decide) (by decide)) ((hC.2.2.2.2.2.2.2.2.1.1.2.2.2.2.1 40 (by decide) (by decide)).1 _ _) (fun z => by cases z) (arr_hin hin) rfl rfl hd (fun H' e1 e2 e3 => ?_)
  have e4 : (.int x) = Value.int (x) := rfl
  refine kk p e R s m args below meth c h0 H' _ lC hC (hR.put hC.2.2.2.2.2.2.2.2.1.2.2.1 ha rfl rfl rfl (fun b j hb => ⟨by rw [gI_pI, if_neg hb], rfl⟩) e2 e3 ?_) hL
  refine Or.inr (Or.inl ⟨by rw [gS_pI, hs]; exact (by decide : 40 ≤ 40), by rw [gS_pI, hs]; exact (by decide : 40 < 44), ?_⟩)
  rw [e1, e4, arrV_store, gS_pI, hs, updV_int]
  have e5 : (fun j => Value.int (gI (pI h a i.toNatClampNeg (x)) a j)) = fun j => Value.int (if j = i.toNatClampNeg then x else gI h a j) := by
    funext j
    rw [gI_pI, if_pos rfl]
  rw [e5]
theorem a_zast {a len : Nat} {i x : Int32} (hd : decode M.2.1 pc = .ok (.bastore, 1)) (hs : gS h a = (41, len)) (ha : 30 ≤ a) (hn : a < gN h) (hin : vp_in i len) (hx : narrow .boolean (.int x) = .int x) (kk : AW g M d Q (pc + 1) ls st (pI h a i.toNatClampNeg (x))) : AW g M d Q pc ls (.int x :: .int i :: .ref a :: st) h := by
  intro p e R s m args below meth c h0 H locs lC hC hR hL
  refine W.zast hC.1 hC.2.1 (Co.arrI hR.1 ha hn hs (by decide) (by decide)) ((hC.2.2.2.2.2.2.2.2.1.1.2.2.2.2.1 41 (by decide) (by decide)).1 _ _) (fun z => by cases z) (arr_hin hin) rfl rfl hd (fun H' e1 e2 e3 => ?_)
  have e4 : (narrow .boolean (.int x)) = Value.int (x) := hx
  refine kk p e R s m args below meth c h0 H' _ lC hC (hR.put hC.2.2.2.2.2.2.2.2.1.2.2.1 ha rfl rfl rfl (fun b j hb => ⟨by rw [gI_pI, if_neg hb], rfl⟩) e2 e3 ?_) hL
  refine Or.inr (Or.inl ⟨by rw [gS_pI, hs]; exact (by decide : 40 ≤ 41), by rw [gS_pI, hs]; exact (by decide : 41 < 44), ?_⟩)
  rw [e1, e4, arrV_store, gS_pI, hs, updV_int]
  have e5 : (fun j => Value.int (gI (pI h a i.toNatClampNeg (x)) a j)) = fun j => Value.int (if j = i.toNatClampNeg then x else gI h a j) := by
    funext j
    rw [gI_pI, if_pos rfl]
  rw [e5]
theorem a_bast {a len : Nat} {i x : Int32} (hd : decode M.2.1 pc = .ok (.bastore, 1)) (hs : gS h a = (42, len)) (ha : 30 ≤ a) (hn : a < gN h) (hin : vp_in i len) (kk : AW g M d Q (pc + 1) ls st (pI h a i.toNatClampNeg (x.toInt8.toInt32))) : AW g M d Q pc ls (.int x :: .int i :: .ref a :: st) h := by
  intro p e R s m args below meth c h0 H locs lC hC hR hL
  refine W.bast hC.1 hC.2.1 (Co.arrI hR.1 ha hn hs (by decide) (by decide)) ((hC.2.2.2.2.2.2.2.2.1.1.2.2.2.2.1 42 (by decide) (by decide)).1 _ _) (fun z => by cases z) (arr_hin hin) rfl rfl hd (fun H' e1 e2 e3 => ?_)
  have e4 : (narrow .byte (.int x)) = Value.int (x.toInt8.toInt32) := rfl
  refine kk p e R s m args below meth c h0 H' _ lC hC (hR.put hC.2.2.2.2.2.2.2.2.1.2.2.1 ha rfl rfl rfl (fun b j hb => ⟨by rw [gI_pI, if_neg hb], rfl⟩) e2 e3 ?_) hL
  refine Or.inr (Or.inl ⟨by rw [gS_pI, hs]; exact (by decide : 40 ≤ 42), by rw [gS_pI, hs]; exact (by decide : 42 < 44), ?_⟩)
  rw [e1, e4, arrV_store, gS_pI, hs, updV_int]
  have e5 : (fun j => Value.int (gI (pI h a i.toNatClampNeg (x.toInt8.toInt32)) a j)) = fun j => Value.int (if j = i.toNatClampNeg then x.toInt8.toInt32 else gI h a j) := by
    funext j
    rw [gI_pI, if_pos rfl]
  rw [e5]
theorem a_sast {a len : Nat} {i x : Int32} (hd : decode M.2.1 pc = .ok (.sastore, 1)) (hs : gS h a = (43, len)) (ha : 30 ≤ a) (hn : a < gN h) (hin : vp_in i len) (kk : AW g M d Q (pc + 1) ls st (pI h a i.toNatClampNeg (x.toInt16.toInt32))) : AW g M d Q pc ls (.int x :: .int i :: .ref a :: st) h := by
  intro p e R s m args below meth c h0 H locs lC hC hR hL
  refine W.sast hC.1 hC.2.1 (Co.arrI hR.1 ha hn hs (by decide) (by decide)) ((hC.2.2.2.2.2.2.2.2.1.1.2.2.2.2.1 43 (by decide) (by decide)).1 _ _) (fun z => by cases z) (arr_hin hin) rfl rfl hd (fun H' e1 e2 e3 => ?_)
  have e4 : (narrow .short (.int x)) = Value.int (x.toInt16.toInt32) := rfl
  refine kk p e R s m args below meth c h0 H' _ lC hC (hR.put hC.2.2.2.2.2.2.2.2.1.2.2.1 ha rfl rfl rfl (fun b j hb => ⟨by rw [gI_pI, if_neg hb], rfl⟩) e2 e3 ?_) hL
  refine Or.inr (Or.inl ⟨by rw [gS_pI, hs]; exact (by decide : 40 ≤ 43), by rw [gS_pI, hs]; exact (by decide : 43 < 44), ?_⟩)
  rw [e1, e4, arrV_store, gS_pI, hs, updV_int]
  have e5 : (fun j => Value.int (gI (pI h a i.toNatClampNeg (x.toInt16.toInt32)) a j)) = fun j => Value.int (if j = i.toNatClampNeg then x.toInt16.toInt32 else gI h a j) := by
    funext j
    rw [gI_pI, if_pos rfl]
  rw [e5]
theorem a_alen {a t len : Nat} {v : Int32} (hd : decode M.2.1 pc = .ok (.arraylength, 1)) (hs : gS h a = (t, len)) (ha : 30 ≤ a) (hn : a < gN h) (h1 : 40 ≤ t) (h2 : t < 47) (hv : Int32.ofNat len = v) (kk : AW g M d Q (pc + 1) ls (.int v :: st) h) : AW g M d Q pc ls (.ref a :: st) h := by
  intro p e R s m args below meth c h0 H locs lC hC hR hL
  subst hv
  have kk := kk p e R s m args below meth c h0 H locs lC hC hR hL
  have hAr := (hC.2.2.2.2.2.2.2.2.1.1.2.2.2.2.1 t h1 h2).1
  by_cases h3 : t < 44
  · exact W.alen hC.1 hC.2.1 (Co.arrI hR.1 ha hn hs h1 h3) (hAr _ _) (by rw [arrV_size]) rfl rfl hd kk
  · exact W.alen hC.1 hC.2.1 (Co.arrR hR.1 ha hn hs (by omega) h2) (hAr _ _) (by rw [arrV_size]) rfl rfl hd kk
theorem kA_obj {t : Nat} (h1 : 44 ≤ t) (h2 : t < 47) : ∃ C, kA t = .object C := by
  rcases (show t = 44 ∨ t = 45 ∨ t = 46 by omega) with rfl | rfl | rfl <;> exact ⟨_, rfl⟩
theorem a_aald {a t len : Nat} {i : Int32} {v : Value} (hd : decode M.2.1 pc = .ok (.aaload, 1)) (hs : gS h a = (t, len)) (ha : 30 ≤ a) (hn : a < gN h) (h1 : 44 ≤ t) (h2 : t < 47) (hin : vp_in i len) (hv : v = rfv (gR h a i.toNatClampNeg)) (kk : AW g M d Q (pc + 1) ls (v :: st) h) : AW g M d Q pc ls (.int i :: .ref a :: st) h := by
  intro p e R s m args below meth c h0 H locs lC hC hR hL
  subst hv
  have kk := kk p e R s m args below meth c h0 H locs lC hC hR hL
  obtain ⟨C, hC2⟩ := kA_obj h1 h2
  have hAr := (hC.2.2.2.2.2.2.2.2.1.1.2.2.2.2.1 t (by omega) h2).1
  have kk2 : W p g.1 e R s m args below meth c H locs (gN h - gN h0) (gZ h - gZ h0) (AQ g Q h0 below s) (F0 m (pc + 1) lC (va_rf ((gR h a i.toNatClampNeg).map (ad g)) :: st.map (trv (ad g)))) := by
    rw [← trv_rfv]
    exact kk
  exact W.aald (ty := kA t) hC.1 hC.2.1 (Co.arrR hR.1 ha hn hs h1 h2) (hAr _ _) (by rw [hC2]; rfl) (fun z => by cases z) (arr_hin hin) (arr_rd hin) rfl rfl hd kk2
theorem updV_ref (ad : Nat → Nat) (f : Nat → Option Nat) (k : Nat) (x : Option Nat) : updV (fun j => va_rf ((f j).map ad)) k (va_rf (x.map ad)) = fun j => va_rf ((if j = k then x else f j).map ad) := by
  funext j
  unfold updV
  by_cases e : j = k
  · rw [if_pos e, if_pos e]
  · rw [if_neg e, if_neg e]
/-- an object of the class t may stand in an array of the tag ta -/
def AstOK (t ta : Nat) : Prop := kOk t = true ∧ 44 ≤ ta ∧ ta < 47 ∧ (kA ta = .object (kC t) ∨ ∃ C, kA ta = .object C ∧ Cond.castable (kC t) C ∈ lw_tbl)
theorem a_aast {a t len b tb lb : Nat} {i : Int32} (hd : decode M.2.1 pc = .ok (.aastore, 1)) (hs : gS h a = (t, len)) (ha : 30 ≤ a) (hn : a < gN h) (hsb : gS h b = (tb, lb)) (hb : 30 ≤ b) (hnb : b < gN h) (hok : AstOK tb t) (hin : vp_in i len) (kk : AW g M d Q (pc + 1) ls st (pR h a i.toNatClampNeg (some b))) : AW g M d Q pc ls (.ref b :: .int i :: .ref a :: st) h := by
  intro p e R s m args below meth c h0 H locs lC hC hR hL
  obtain ⟨ht, h1, h2, hcast⟩ := hok
  have hS := hC.2.2.2.2.2.2.2.2.1
  obtain ⟨cellV, g1, g2, g3, -⟩ := Co.obj hR.1 hb hnb hsb ht
  have hcls := (hS.1.2.2.2.1 tb ht).2
  obtain ⟨hfc, kB, hkB, -⟩ := id hcls
  have hlt : i.toNatClampNeg < len := Nat.not_le.mp fun q => hin (Or.inr q)
  have hi0 : ¬ i < 0 := fun q => hin (Or.inl q)
  obtain ⟨C, hC2⟩ := kA_obj h1 h2
  have hRA := (hS.1.2.2.2.2.1 t (by omega) h2).2
  rw [hC2] at hRA
  obtain ⟨kAr, comp, k1, k2, k3, -⟩ := hRA
  obtain ⟨kE, hkE, -⟩ := Vm.findClass_spec k3
  have hasg : s.vm.assignable cellV.cls comp = true := by
    rw [g2]
    rcases hcast with hq | ⟨C', hq, hw⟩
    · have e1 : C = kC tb := by have := hC2.symm.trans hq; injection this
      rw [e1] at k3
      have e2 : comp = dC g tb := Option.some.inj (k3.symm.trans hfc)
      rw [e2]
      exact va_assign hcls
    · have e1 : C = C' := by have := hC2.symm.trans hq; injection this
      subst e1
      obtain ⟨c0, t0, f1, f2, f3⟩ := Cond.castable_spec (va_Nw.use (A := args) rfl (hS.1.2.1 _ hw rfl))
      cases hfc.symm.trans f1
      cases k3.symm.trans f2
      exact f3
  refine W.aast hC.1 hC.2.1 (Co.arrR hR.1 ha hn hs h1 h2) (fun q z => by cases z) (fun z => by cases z) k1 k2 rfl hkE ⟨hi0, by rw [arrV_size]; exact hlt⟩ g1 (fun q z => by rw [g3] at z; cases z) (by rw [g2]; exact hkB) hasg rfl rfl hd (fun H' e1 e2 e3 => ?_)
  refine kk p e R s m args below meth c h0 H' _ lC hC (hR.put hS.2.2.1 ha rfl rfl rfl (fun b j hb => ⟨rfl, by rw [gR_pR, if_neg hb]⟩) e2 e3 ?_) hL
  refine Or.inr (Or.inr ⟨by rw [gS_pR, hs]; exact h1, by rw [gS_pR, hs]; exact h2, ?_⟩)
  have e5 : (fun j => va_rf ((gR (pR h a i.toNatClampNeg (some b)) a j).map (ad g))) = fun j => va_rf ((if j = i.toNatClampNeg then some b else gR h a j).map (ad g)) := by
    funext j
    rw [gR_pR, if_pos rfl]
  rw [e1, arrV_store, gS_pR, hs, e5, ← updV_ref]
  rfl
/-- the world behind a new cell -/
theorem Rt.new {g : Gl} {h0 h : AH} {t len z : Nat} {Hs H H' : Heap} {locs : List Loc} (hA : AdOK g) (hR : Rt g h0 h Hs H locs) (hc : gN h + 1 ≤ CAP) (hz : gZ h + z ≤ CAS) (h1 : H'.size = H.size + 1) (h2 : ∀ q, q < H.size → H'[q]? = H[q]?) (hB : gB g ≤ Hs.size) (hcel : Cel g (pN h t len z) (gN h) H') : Rt g h0 (pN h t len z) Hs H' locs := by
  obtain ⟨⟨c1, c2, c3⟩, r2, r3, r4, r5, r6⟩ := hR
  refine ⟨⟨by rw [gN_pN]; omega, by rw [gN_pN, h1, c2]; omega, fun b hb hb2 => ?_⟩, ⟨by rw [h1]; exact Nat.le_succ_of_le r2.1, fun q q1 q2 => by rw [h2 q (Nat.lt_of_lt_of_le q1 r2.1)]; exact r2.2.1 q q1 q2, r2.2.2⟩, by rw [gN_pN]; omega, by rw [gZ_pN]; omega, by rw [gN_pN]; omega, by rw [gZ_pN]; omega⟩
  by_cases e : b = gN h
  · subst e; exact hcel
  · rw [gN_pN] at hb2
    have hlt : b < gN h := by omega
    exact Cel.kept (by rw [gS_pN, if_neg e]) (fun j => by rw [gI_pN, if_neg e]) (fun j => by rw [gR_pN, if_neg e]) (h2 _ (by rw [hA.1 b hb, c2]; omega)) (c3 b hb hlt)
theorem Co.top {g : Gl} {h : AH} {H : Heap} (hA : AdOK g) (hC : Co g h H) : H.size = ad g (gN h) := by rw [hC.2.1, hA.1 _ hC.1]
theorem a_new {idx t : Nat} (hd : decode M.2.1 pc = .ok (.new idx, 3)) (ht : kOk t = true) (hl : Cond.classLink M.1.cls idx (kC t) ∈ lw_all) (hc : gN h + 1 ≤ CAP) (hz : gZ h + kM t ≤ CAS) (kk : AW g M d Q (pc + 3) ls (.ref (gN h) :: st) (pN h t 0 (kM t))) : AW g M d Q pc ls st h := by
  intro p e R s m args below meth c h0 H locs lC hC hR hL
  have hS := hC.2.2.2.2.2.2.2.2.1
  obtain ⟨hin, hty, hnm, hins, hini⟩ := clsOK t ht
  have hKn := hS.1.2.2.2.1 t ht
  have ht25 : t < 25 := by simp [kOk] at ht; omega
  obtain ⟨-, -, -, -, -, -, -, hown, -, hfr, hlo, hce, hsl⟩ := id hC
  have r3 := hR.2.2.1
  have r4 := hR.2.2.2.1
  refine W.newcK hC.1 hC.2.1 hown (hS.1.1 _ hl args) (hS.1.1 _ hins args) (hS.1.1 _ hini args) rfl hd (by omega) (by omega) hKn.2.1 (Co.top hS.2.2.1 hR.1) (fun H' kC' hkC e1 z1 o1 => ?_)
  have hRt : Rt g h0 (pN h t 0 (kM t)) s.heap H' locs := by
    refine hR.new hS.2.2.1 hc hz (by rw [z1, Co.top hS.2.2.1 hR.1]) (fun q hq => o1 q (by rw [← Co.top hS.2.2.1 hR.1]; exact hq)) (by rw [hS.2.2.2.1.2.1]; omega) ?_
    refine Or.inl ⟨?_, ?_, ?_⟩
    · rw [gS_pN, if_pos rfl]; show t < 40; omega
    · rw [gS_pN, if_pos rfl]; exact ht
    · rw [gS_pN, if_pos rfl]
      refine (u_born (kY t) (fun w hw => hS.1.1 w hw args) hin hKn hkC e1 hty).to (fun j hj => ?_)
      rw [kdef t ht25 j (Nat.lt_of_lt_of_le hj (kN_le t ht25))]
      unfold fv
      by_cases hq : kF t j = true
      · rw [if_pos hq, if_pos hq, gR_pN, if_pos rfl]; rfl
      · rw [if_neg hq, if_neg hq, gI_pN, if_pos rfl]
  have k2 := kk p e R s m args below meth c h0 H' locs lC hC hRt hL
  rw [gN_pN, gZ_pN, show gN h + 1 - gN h0 = gN h - gN h0 + 1 by omega, show gZ h + kM t - gZ h0 = gZ h - gZ h0 + kM t by omega] at k2
  exact k2
/-- new int[n], boolean[n], byte[n], short[n] -/
def atOK (at_ : ArrayType) (t : Nat) : Prop := newarray.typeOf at_ = kA t ∧ 40 ≤ t ∧ t < 44 ∧ Cond.arrayClass (kA t) ∈ lw_all ∧ defaultValue (kA t) = .int 0 ∧ componentBytes (kA t) ≤ 4
theorem a_newa {at_ : ArrayType} {t : Nat} {n : Int32} {N : Nat} (hd : decode M.2.1 pc = .ok (.newarray at_, 2)) (hok : atOK at_ t) (hn : ¬ n < 0) (hN : n.toNatClampNeg = N) (hb : N ≤ 1000000) (hc : gN h + 1 ≤ CAP) (hz : gZ h + N ≤ CAS) (kk : AW g M d Q (pc + 2) ls (.ref (gN h) :: st) (pN h t N N)) : AW g M d Q pc ls (.int n :: st) h := by
  intro p e R s m args below meth c h0 H locs lC hC hR hL
  obtain ⟨k0, k1, k2, k3, k4, k5⟩ := hok
  have hS := hC.2.2.2.2.2.2.2.2.1
  obtain ⟨-, -, -, -, -, -, -, hown, -, hfr, hlo, hce, hsl⟩ := id hC
  have r3 := hR.2.2.1
  have r4 := hR.2.2.2.1
  have hRA := (hS.1.2.2.2.2.1 t k1 (by omega)).2
  refine va_newaK hC.1 hC.2.1 (by rw [k0]; exact hS.1.1 _ k3 args) rfl hd rfl hn hN (by rw [k0]; exact Nat.le_trans (Nat.mul_le_mul hb k5) (by decide)) (by omega) (by omega) (Co.top hS.2.2.1 hR.1) (fun H' cA e1 z1 o1 hAr hNm => ?_)
  have hcA : cA = ca g t := by
    rw [k0] at hNm
    rcases (show t = 40 ∨ t = 41 ∨ t = 42 ∨ t = 43 by omega) with rfl | rfl | rfl | rfl <;> exact Option.some.inj (hNm.symm.trans hRA)
  have hRt : Rt g h0 (pN h t N N) s.heap H' locs := by
    refine hR.new hS.2.2.1 hc hz (by rw [z1, Co.top hS.2.2.1 hR.1]) (fun q hq => o1 q (by rw [← Co.top hS.2.2.1 hR.1]; exact hq)) (by rw [hS.2.2.2.1.2.1]; omega) ?_
    refine Or.inr (Or.inl ⟨by rw [gS_pN, if_pos rfl]; exact k1, by rw [gS_pN, if_pos rfl]; exact k2, ?_⟩)
    rw [gS_pN, if_pos rfl, e1, hcA, k0, k4]
    have e5 : (fun j => Value.int (gI (pN h t N N) (gN h) j)) = fun _ => Value.int 0 := by
      funext j
      rw [gI_pN, if_pos rfl]
    rw [e5]
  have k2 := kk p e R s m args below meth c h0 H' locs lC hC hRt hL
  rw [gN_pN, gZ_pN, show gN h + 1 - gN h0 = gN h - gN h0 + 1 by omega, show gZ h + N - gZ h0 = gZ h - gZ h0 + N by omega] at k2
  exact k2
theorem a_anew {idx t : Nat} {C : String} {n : Int32} {N : Nat} (hd : decode M.2.1 pc = .ok (.anewarray idx, 3)) (h1 : 44 ≤ t) (h2 : t < 47) (hC2 : kA t = .object C) (hl : Cond.classLink M.1.cls idx C ∈ lw_all) (hn : ¬ n < 0) (hN : n.toNatClampNeg = N) (hb : N ≤ 1000000) (hc : gN h + 1 ≤ CAP) (hz : gZ h + N ≤ CAS) (kk : AW g M d Q (pc + 3) ls (.ref (gN h) :: st) (pN h t N N)) : AW g M d Q pc ls (.int n :: st) h := by
  intro p e R s m args below meth c h0 H locs lC hC hR hL
  subst hN
  have hS := hC.2.2.2.2.2.2.2.2.1
  obtain ⟨-, -, -, -, -, -, -, hown, -, hfr, hlo, hce, hsl⟩ := id hC
  have r3 := hR.2.2.1
  have r4 := hR.2.2.2.1
  have hRA := (hS.1.2.2.2.2.1 t (by omega) h2).2
  rw [hC2] at hRA
  obtain ⟨kAr, comp0, q1, q2, q3, q4⟩ := hRA
  have hCC : C = RX7 ∨ C = RX14 ∨ C = RX5 := by
    rcases (show t = 44 ∨ t = 45 ∨ t = 46 by omega) with rfl | rfl | rfl
    · have : FieldType.object RX7 = .object C := hC2
      injection this with this
      exact Or.inl this.symm
    · have : FieldType.object RX14 = .object C := hC2
      injection this with this
      exact Or.inr (Or.inl this.symm)
    · have : FieldType.object RX5 = .object C := hC2
      injection this with this
      exact Or.inr (Or.inr this.symm)
  refine W.anew hC.1 hC.2.1 hown (hS.1.1 _ hl args) (va_AO.use (hS.1.2.2.2.2.2.1 C hCC)) rfl hd rfl hn (by omega) (by omega) (by omega) (fun cA kA' comp f1 f2 f3 f4 => ?_)
  have hcA : cA = ca g t := Option.some.inj (f1.symm.trans q4)
  generalize hH1 : H.push ({ cls := cA, slots := Array.replicate n.toNatClampNeg .null, vm := .none } : Cell) = H'
  have z1 : H'.size = H.size + 1 := by rw [← hH1, Array.size_push]
  have e1 : H'[H.size]? = some (arrV cA n.toNatClampNeg (fun _ => .null)) := by rw [← hH1, Array.getElem?_push_size, ← arrV_new]
  have o1 : ∀ q : Nat, q < H.size → H'[q]? = H[q]? := fun q hq => by rw [← hH1, Array.getElem?_push, if_neg (Nat.ne_of_lt hq)]
  have hRt : Rt g h0 (pN h t n.toNatClampNeg n.toNatClampNeg) s.heap H' locs := by
    refine hR.new hS.2.2.1 hc hz z1 o1 (by rw [hS.2.2.2.1.2.1]; omega) ?_
    refine Or.inr (Or.inr ⟨by rw [gS_pN, if_pos rfl]; exact h1, by rw [gS_pN, if_pos rfl]; exact h2, ?_⟩)
    rw [gS_pN, if_pos rfl, ← Co.top hS.2.2.1 hR.1, e1, hcA]
    have e5 : (fun j => va_rf ((gR (pN h t n.toNatClampNeg n.toNatClampNeg) (gN h) j).map (ad g))) = fun _ => Value.null := by
      funext j
      rw [gR_pN, if_pos rfl]
      rfl
    rw [e5]
  have k2 := kk p e R s m args below meth c h0 H' locs lC hC hRt hL
  rw [gN_pN, gZ_pN, show gN h + 1 - gN h0 = gN h - gN h0 + 1 by omega, show gZ h + n.toNatClampNeg - gZ h0 = gZ h - gZ h0 + n.toNatClampNeg by omega] at k2
  rw [show (H.size : Nat) = ad g (gN h) from Co.top hS.2.2.1 hR.1]
  exact k2
end
