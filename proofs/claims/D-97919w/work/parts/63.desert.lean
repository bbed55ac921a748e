/-! ===== the desert's own methods, going on (printed by gen/p63.py) ===== -/
theorem c_needs {g : Gl} {h : AH} (hx : Fx h) {D : De} (hm : tn (D 3 3) ≤ 6) (rd : RD h 32 D) (p : Nat) (hp2 : p < tn (D 3 3)) : AM g 75 mX2_needs [.ref 32, .int (nI p)] h (eI (needsOf D (D 4 p) (D 5 p) (D 8 p)) (fun h2 => Sm [45] h h2)) := by
  refine AM.of (by decide) (Nat.le_of_ble_eq_true rfl) ?_
  show AW g mX2_needs 75 _ 0 [some (.ref 32), some (.int (nI p))] [] h
  have hp : p < 6 := by omega
  obtain ⟨r, er, pr⟩ := rd.iU.1 p hp2
  refine a_aload_n (pc := 0) (i := 0) dX2_needs_0 rfl rfl ?_
  refine a_getR (pc := 1) dX2_needs_1 fX2_27_2 rfl (hx.s 32 rfl) (by decide) (hx.n (by decide)) (hx.r 32 7 36 rfl) ?_
  refine a_iload_n (pc := 4) (i := 1) dX2_needs_4 rfl rfl ?_
  refine a_aaldN (pc := 5) (v := .ref (r)) dX2_needs_5 (hx.s 36 rfl) (by decide) (hx.n (by decide)) (by decide) (by decide) (k := p) rfl ⟨hp, by decide⟩ (by rw [show gR h 36 p = some r from er]; rfl) ?_
  refine a_aload_n (pc := 6) (i := 0) dX2_needs_6 rfl rfl ?_
  refine a_aload_n (pc := 7) (i := 0) dX2_needs_7 rfl rfl ?_
  refine a_getR (pc := 8) dX2_needs_8 fX2_37_2 rfl (hx.s 32 rfl) (by decide) (hx.n (by decide)) (hx.r 32 10 39 rfl) ?_
  refine a_iload_n (pc := 11) (i := 1) dX2_needs_11 rfl rfl ?_
  refine a_ialdN (pc := 12) dX2_needs_12 (hx.s 39 rfl) (by decide) (hx.n (by decide)) (k := p) rfl ⟨hp, by decide⟩ ?_
  refine d_needs_X2 (pc := 13) hx rd _ pr rfl dX2_needs_13 (by decide) (Nat.le_of_ble_eq_true rfl) (fun h2 e2 => ?_)
  exact a_iret (pc := 16) dX2_needs_16 rfl (eI_of (by rw [← rd.iT p hp]) e2)
theorem PR.sh {h : AH} {r p : Nat} {κ m : Int32} (q : PR h r p κ m) : ∃ t : Nat, t ≤ 6 ∧ κ = nI t ∧ 96 ≤ r ∧ r < gN h ∧ gS h r = (7 + t, 0) ∧ gI h r 2 = m := by
  obtain ⟨t, a, b, c, d, e, f, x, y⟩ := q
  exact ⟨t, a, b, c, d, e, y⟩
theorem d_m_X2 {g : Gl} {M : MI} {d : Nat} {Q : Outcome → AH → Prop} {pc r p : Nat} {ls : List (Option Value)} {st : List Value} {h : AH} {κ m : Int32} (pr : PR h r p κ m) (hc : M.1.cls = RX2) (hd : decode M.2.1 pc = .ok (.getfield 113, 3)) (kk : AW g M d Q (pc + 3) ls (.int m :: st) h) : AW g M d Q pc ls (.ref r :: st) h := by
  obtain ⟨t0, ht, rfl, hr0, hn, hs, i2⟩ := pr.sh
  have hr : 30 ≤ r := by omega
  have ht : t0 = 0 ∨ t0 = 1 ∨ t0 = 2 ∨ t0 = 3 ∨ t0 = 4 ∨ t0 = 5 ∨ t0 = 6 := by omega
  subst i2
  rcases ht with rfl | rfl | rfl | rfl | rfl | rfl | rfl
  · exact a_getI hd (by rw [hc]; exact fX2_113_7) rfl hs hr hn kk
  · exact a_getI hd (by rw [hc]; exact fX2_113_8) rfl hs hr hn kk
  · exact a_getI hd (by rw [hc]; exact fX2_113_9) rfl hs hr hn kk
  · exact a_getI hd (by rw [hc]; exact fX2_113_10) rfl hs hr hn kk
  · exact a_getI hd (by rw [hc]; exact fX2_113_11) rfl hs hr hn kk
  · exact a_getI hd (by rw [hc]; exact fX2_113_12) rfl hs hr hn kk
  · exact a_getI hd (by rw [hc]; exact fX2_113_13) rfl hs hr hn kk
theorem d_m_X0 {g : Gl} {M : MI} {d : Nat} {Q : Outcome → AH → Prop} {pc r p : Nat} {ls : List (Option Value)} {st : List Value} {h : AH} {κ m : Int32} (pr : PR h r p κ m) (hc : M.1.cls = RX0) (hd : decode M.2.1 pc = .ok (.getfield 169, 3)) (kk : AW g M d Q (pc + 3) ls (.int m :: st) h) : AW g M d Q pc ls (.ref r :: st) h := by
  obtain ⟨t0, ht, rfl, hr0, hn, hs, i2⟩ := pr.sh
  have hr : 30 ≤ r := by omega
  have ht : t0 = 0 ∨ t0 = 1 ∨ t0 = 2 ∨ t0 = 3 ∨ t0 = 4 ∨ t0 = 5 ∨ t0 = 6 := by omega
  subst i2
  rcases ht with rfl | rfl | rfl | rfl | rfl | rfl | rfl
  · exact a_getI hd (by rw [hc]; exact fX0_169_7) rfl hs hr hn kk
  · exact a_getI hd (by rw [hc]; exact fX0_169_8) rfl hs hr hn kk
  · exact a_getI hd (by rw [hc]; exact fX0_169_9) rfl hs hr hn kk
  · exact a_getI hd (by rw [hc]; exact fX0_169_10) rfl hs hr hn kk
  · exact a_getI hd (by rw [hc]; exact fX0_169_11) rfl hs hr hn kk
  · exact a_getI hd (by rw [hc]; exact fX0_169_12) rfl hs hr hn kk
  · exact a_getI hd (by rw [hc]; exact fX0_169_13) rfl hs hr hn kk
theorem c_parched {g : Gl} {h : AH} (hx : Fx h) {D : De} (hm : tn (D 3 3) ≤ 6) (rd : RD h 32 D) (p : Nat) (hp2 : p < tn (D 3 3)) (l : Int32) : AM g 75 mX2_parched [.ref 32, .int (nI p), .int l] h (eI (parch D l (D 5 p) (D 3 2)) (fun h2 => Sm [45] h h2)) := by
  refine AM.of (by decide) (Nat.le_of_ble_eq_true rfl) ?_
  show AW g mX2_parched 75 _ 0 [some (.ref 32), some (.int (nI p)), some (.int l)] [] h
  have hp : p < 6 := by omega
  obtain ⟨r, er, pr⟩ := rd.iU.1 p hp2
  refine a_aload_n (pc := 0) (i := 0) dX2_parched_0 rfl rfl ?_
  refine a_iload_n (pc := 1) (i := 2) dX2_parched_1 rfl rfl ?_
  refine a_aload_n (pc := 2) (i := 0) dX2_parched_2 rfl rfl ?_
  refine a_getR (pc := 3) dX2_parched_3 fX2_27_2 rfl (hx.s 32 rfl) (by decide) (hx.n (by decide)) (hx.r 32 7 36 rfl) ?_
  refine a_iload_n (pc := 6) (i := 1) dX2_parched_6 rfl rfl ?_
  refine a_aaldN (pc := 7) (v := .ref (r)) dX2_parched_7 (hx.s 36 rfl) (by decide) (hx.n (by decide)) (by decide) (by decide) (k := p) rfl ⟨hp, by decide⟩ (by rw [show gR h 36 p = some r from er]; rfl) ?_
  refine d_m_X2 (pc := 8) pr rfl dX2_parched_8 ?_
  refine a_aload_n (pc := 11) (i := 0) dX2_parched_11 rfl rfl ?_
  refine a_getI (pc := 12) dX2_parched_12 fX2_76_2 rfl (hx.s 32 rfl) (by decide) (hx.n (by decide)) ?_
  refine a_cVe (pc := 15) (c_parchedBy hx rd.iX _ _ _) sX2_116_2 dX2_parched_15 (recv_obj (t := 2) rfl (hx.s 32 rfl) (by decide) (hx.n (by decide))) rfl rfl (by decide) (Nat.le_of_ble_eq_true rfl) (fun h2 e2 => ?_)
  exact a_iret (pc := 18) dX2_parched_18 rfl (eI_of (by rw [← rd.iDay]) e2)
theorem c_canDrink {g : Gl} {h : AH} (hx : Fx h) {D : De} (wd : Wd D) (rd : RD h 32 D) (p : Nat) (hp2 : p < tn (D 3 3)) : AM g 76 mX2_canDrink [.ref 32, .int (nI p)] h (eI (bI (D 9 p = 0 ∧ needsOf D (D 4 p) (D 5 p) (D 8 p) ≤ D 0 (tn (D 6 p)))) (fun h2 => Sm [45] h h2)) := by
  refine AM.of (by decide) (Nat.le_of_ble_eq_true rfl) ?_
  show AW g mX2_canDrink 76 _ 0 [some (.ref 32), some (.int (nI p))] [] h
  have hp : p < 6 := by have := wd.many; omega
  obtain ⟨r, er, pr⟩ := rd.iU.1 p hp2
  obtain ⟨a, ha, ea⟩ := wd.wA p hp
  have ea2 : gI h 37 p = nI a := (rd.iA p hp).trans ea
  have ta : tn (D 6 p) = a := by rw [ea]; exact tn_nI (by omega)
  have e9 := rd.iD p hp
  have e0 := rd.iW a (by omega)
  have e9 : gI h 40 p = D 9 p := e9
  have e0 : gI h 33 a = D 0 a := e0
  refine a_aload_n (pc := 0) (i := 0) dX2_canDrink_0 rfl rfl ?_
  refine a_getR (pc := 1) dX2_canDrink_1 fX2_40_2 rfl (hx.s 32 rfl) (by decide) (hx.n (by decide)) (hx.r 32 11 40 rfl) ?_
  refine a_iload_n (pc := 4) (i := 1) dX2_canDrink_4 rfl rfl ?_
  refine a_zaldN (pc := 5) dX2_canDrink_5 (hx.s 40 rfl) (by decide) (hx.n (by decide)) (k := p) rfl ⟨hp, by decide⟩ ?_
  refine a_if_ne (pc := 6) (tgt := 32) dX2_canDrink_6 (by decide) (fun c6 => ?_) (fun c6 => ?_)
  · skip
    refine a_iconst (pc := 32) (v := 0) dX2_canDrink_32 (by decide) ?_
    exact a_zret (pc := 33) dX2_canDrink_33 rfl rfl (eI_of (by grind [bI]) (by first | exact e2 | exact Sm.rf h))
  · skip
    refine a_aload_n (pc := 9) (i := 0) dX2_canDrink_9 rfl rfl ?_
    refine a_getR (pc := 10) dX2_canDrink_10 fX2_9_2 rfl (hx.s 32 rfl) (by decide) (hx.n (by decide)) (hx.r 32 0 33 rfl) ?_
    refine a_aload_n (pc := 13) (i := 0) dX2_canDrink_13 rfl rfl ?_
    refine a_getR (pc := 14) dX2_canDrink_14 fX2_31_2 rfl (hx.s 32 rfl) (by decide) (hx.n (by decide)) (hx.r 32 8 37 rfl) ?_
    refine a_iload_n (pc := 17) (i := 1) dX2_canDrink_17 rfl rfl ?_
    refine a_ialdN (pc := 18) dX2_canDrink_18 (hx.s 37 rfl) (by decide) (hx.n (by decide)) (k := p) rfl ⟨hp, by decide⟩ ?_
    refine a_ialdN (pc := 19) dX2_canDrink_19 (hx.s 33 rfl) (by decide) (hx.n (by decide)) (k := a) ea2 ⟨by omega, by decide⟩ ?_
    refine a_aload_n (pc := 20) (i := 0) dX2_canDrink_20 rfl rfl ?_
    refine a_iload_n (pc := 21) (i := 1) dX2_canDrink_21 rfl rfl ?_
    refine a_cVe (pc := 22) (c_needs hx wd.many.1 rd p hp2) sX2_119_2 dX2_canDrink_22 (recv_obj (t := 2) rfl (hx.s 32 rfl) (by decide) (hx.n (by decide))) rfl rfl (by decide) (Nat.le_of_ble_eq_true rfl) (fun h2 e2 => ?_)
    refine a_icmp_lt (pc := 25) (tgt := 32) dX2_canDrink_25 (by decide) (fun c25 => ?_) (fun c25 => ?_)
    · skip
      refine a_iconst (pc := 32) (v := 0) dX2_canDrink_32 (by decide) ?_
      exact a_zret (pc := 33) dX2_canDrink_33 rfl rfl (eI_of (by grind [bI]) (by first | exact e2 | exact Sm.rf h))
    · skip
      refine a_iconst (pc := 28) (v := 1) dX2_canDrink_28 (by decide) ?_
      refine a_goto (pc := 29) (tgt := 33) dX2_canDrink_29 (by decide) ?_
      exact a_zret (pc := 33) dX2_canDrink_33 rfl rfl (eI_of (by grind [bI]) (by first | exact e2 | exact Sm.rf h))
theorem c_drinks {g : Gl} {h : AH} (hx : Fx h) {D : De} (wd : Wd D) (rd : RD h 32 D) (p : Nat) (hp2 : p < tn (D 3 3)) : AM g 76 mX2_drinks [.ref 32, .int (nI p)] h (eV (fun h2 => RD h2 32 (driD D p) ∧ Sm [33, 38, 39, 45] h h2)) := by
  refine AM.of (by decide) (Nat.le_of_ble_eq_true rfl) ?_
  show AW g mX2_drinks 76 _ 0 [some (.ref 32), some (.int (nI p))] [] h
  have hp : p < 6 := by have := wd.many; omega
  obtain ⟨r, er, pr⟩ := rd.iU.1 p hp2
  obtain ⟨a, ha, ea⟩ := wd.wA p hp
  have ea2 : gI h 37 p = nI a := (rd.iA p hp).trans ea
  have ta : tn (D 6 p) = a := by rw [ea]; exact tn_nI (by omega)
  refine a_aload_n (pc := 0) (i := 0) dX2_drinks_0 rfl rfl ?_
  refine a_getR (pc := 1) dX2_drinks_1 fX2_9_2 rfl (hx.s 32 rfl) (by decide) (hx.n (by decide)) (hx.r 32 0 33 rfl) ?_
  refine a_aload_n (pc := 4) (i := 0) dX2_drinks_4 rfl rfl ?_
  refine a_getR (pc := 5) dX2_drinks_5 fX2_31_2 rfl (hx.s 32 rfl) (by decide) (hx.n (by decide)) (hx.r 32 8 37 rfl) ?_
  refine a_iload_n (pc := 8) (i := 1) dX2_drinks_8 rfl rfl ?_
  refine a_ialdN (pc := 9) dX2_drinks_9 (hx.s 37 rfl) (by decide) (hx.n (by decide)) (k := p) rfl ⟨hp, by decide⟩ ?_
  refine a_dup2 (pc := 10) dX2_drinks_10 rfl rfl ?_
  refine a_ialdN (pc := 11) dX2_drinks_11 (hx.s 33 rfl) (by decide) (hx.n (by decide)) (k := a) ea2 ⟨by omega, by decide⟩ ?_
  refine a_aload_n (pc := 12) (i := 0) dX2_drinks_12 rfl rfl ?_
  refine a_iload_n (pc := 13) (i := 1) dX2_drinks_13 rfl rfl ?_
  refine a_cVe (pc := 14) (c_needs hx wd.many.1 rd p hp2) sX2_119_2 dX2_drinks_14 (recv_obj (t := 2) rfl (hx.s 32 rfl) (by decide) (hx.n (by decide))) rfl rfl (by decide) (Nat.le_of_ble_eq_true rfl) (fun h2 e2 => ?_)
  have hx := hx.sm e2
  have rd2 : RD h2 32 D := RD.sm e2 rd
  have er : gR h2 36 p = some r := by rw [e2.gR]; exact er
  have pr : PR h2 r p (D 4 p) (D 5 p) := pr.xt e2.xa.t
  refine a_isub (pc := 17) dX2_drinks_17 ?_
  refine a_iastN (pc := 18) dX2_drinks_18 (hx.s 33 rfl) (by decide) (hx.n (by decide)) (k := a) ea2 ⟨by omega, by decide⟩ ?_
  refine a_aload_n (pc := 19) (i := 0) dX2_drinks_19 rfl rfl ?_
  refine a_getR (pc := 20) dX2_drinks_20 fX2_37_2 rfl (hx.s 32 rfl) (by decide) (hx.n (by decide)) (hx.r 32 10 39 rfl) ?_
  refine a_iload_n (pc := 23) (i := 1) dX2_drinks_23 rfl rfl ?_
  refine a_iconst (pc := 24) (v := 0) dX2_drinks_24 (by decide) ?_
  refine a_iastN (pc := 25) dX2_drinks_25 (hx.s 39 rfl) (by decide) (hx.n (by decide)) (k := p) rfl ⟨hp, by decide⟩ ?_
  refine a_aload_n (pc := 26) (i := 0) dX2_drinks_26 rfl rfl ?_
  refine a_getR (pc := 27) dX2_drinks_27 fX2_34_2 rfl (hx.s 32 rfl) (by decide) (hx.n (by decide)) (hx.r 32 9 38 rfl) ?_
  refine a_iload_n (pc := 30) (i := 1) dX2_drinks_30 rfl rfl ?_
  refine a_aload_n (pc := 31) (i := 0) dX2_drinks_31 rfl rfl ?_
  refine a_getR (pc := 32) dX2_drinks_32 fX2_27_2 rfl (hx.s 32 rfl) (by decide) (hx.n (by decide)) (hx.r 32 7 36 rfl) ?_
  refine a_iload_n (pc := 35) (i := 1) dX2_drinks_35 rfl rfl ?_
  refine a_aaldN (pc := 36) (v := .ref (r)) dX2_drinks_36 (hx.s 36 rfl) (by decide) (hx.n (by decide)) (by decide) (by decide) (k := p) rfl ⟨hp, by decide⟩ (by rw [show gR (pI (pI h2 33 a (gI h 33 a - needsOf D (D 4 p) (D 5 p) (D 8 p))) 39 p 0) 36 p = some r from er]; rfl) ?_
  refine a_aload_n (pc := 37) (i := 0) dX2_drinks_37 rfl rfl ?_
  refine a_getR (pc := 38) dX2_drinks_38 fX2_31_2 rfl (hx.s 32 rfl) (by decide) (hx.n (by decide)) (hx.r 32 8 37 rfl) ?_
  refine a_iload_n (pc := 41) (i := 1) dX2_drinks_41 rfl rfl ?_
  refine a_ialdN (pc := 42) dX2_drinks_42 (hx.s 37 rfl) (by decide) (hx.n (by decide)) (k := p) rfl ⟨hp, by decide⟩ ?_
  refine a_aload_n (pc := 43) (i := 0) dX2_drinks_43 rfl rfl ?_
  refine a_getR (pc := 44) dX2_drinks_44 fX2_34_2 rfl (hx.s 32 rfl) (by decide) (hx.n (by decide)) (hx.r 32 9 38 rfl) ?_
  refine a_iload_n (pc := 47) (i := 1) dX2_drinks_47 rfl rfl ?_
  refine a_ialdN (pc := 48) dX2_drinks_48 (hx.s 38 rfl) (by decide) (hx.n (by decide)) (k := p) rfl ⟨hp, by decide⟩ ?_
  refine a_aload_n (pc := 49) (i := 0) dX2_drinks_49 rfl rfl ?_
  refine a_getI (pc := 50) dX2_drinks_50 fX2_73_2 rfl (hx.s 32 rfl) (by decide) (hx.n (by decide)) ?_
  rw [show gI (pI (pI h2 33 a (gI h 33 a - needsOf D (D 4 p) (D 5 p) (D 8 p))) 39 p 0) 37 p = D 6 p from rd2.iA p hp, show gI (pI (pI h2 33 a (gI h 33 a - needsOf D (D 4 p) (D 5 p) (D 8 p))) 39 p 0) 38 p = D 7 p from rd2.iN p hp, show gI (pI (pI h2 33 a (gI h 33 a - needsOf D (D 4 p) (D 5 p) (D 8 p))) 39 p 0) 32 4 = D 3 1 from rd2.iHour, show gI h 33 a = D 0 a from rd.iW a (by omega)]
  refine d_called_X2 (m := D 5 p) (κ := D 4 p) (p := p) (pc := 53) _ _ _ (wd.wN p hp) (pr.xt (((Xa.rf h2).pI (by decide) _ _).pI (by decide) _ _).t) rfl dX2_drinks_53 (by decide) (Nat.le_of_ble_eq_true rfl) ?_
  refine a_iastN (pc := 56) dX2_drinks_56 (hx.s 38 rfl) (by decide) (hx.n (by decide)) (k := p) rfl ⟨hp, by decide⟩ ?_
  exact a_vret (pc := 57) dX2_drinks_57 rfl (eV_of ⟨by unfold driD; rw [ta]; exact RD.name (by decide) (RD.thirst (by decide) (RD.water (by decide) rd2 a _) p 0) p _, (((e2.mono).pI 33 _ _).pI 39 _ _).pI 38 _ _⟩)
theorem c_goes {g : Gl} {h : AH} (hx : Fx h) {D : De} (wd : Wd D) (rd : RD h 32 D) (p : Nat) (hp2 : p < tn (D 3 3)) (w : Nat) (hw : w ≤ 7) : AM g 80 mX2_goes [.ref 32, .int (nI p), .int (nI w)] h (eV (fun h2 => RD h2 32 (goeD D p w) ∧ Sm [32, 37, 39, 40, 45] h h2)) := by
  refine AM.of (by decide) (Nat.le_of_ble_eq_true rfl) ?_
  show AW g mX2_goes 80 _ 0 [some (.ref 32), some (.int (nI p)), some (.int (nI w))] [] h
  have hp : p < 6 := by have := wd.many; omega
  obtain ⟨r, er, pr⟩ := rd.iU.1 p hp2
  obtain ⟨a, ha, ea⟩ := wd.wA p hp
  have ea2 : gI h 37 p = nI a := (rd.iA p hp).trans ea
  have ta : tn (D 6 p) = a := by rw [ea]; exact tn_nI (by omega)
  have el : gI h 34 (8 * a + w) = lenD D p w := by unfold lenD; rw [ta]; exact rd.iR _ (by omega)
  refine a_aload_n (pc := 0) (i := 0) dX2_goes_0 rfl rfl ?_
  refine a_aload_n (pc := 1) (i := 0) dX2_goes_1 rfl rfl ?_
  refine a_getR (pc := 2) dX2_goes_2 fX2_31_2 rfl (hx.s 32 rfl) (by decide) (hx.n (by decide)) (hx.r 32 8 37 rfl) ?_
  refine a_iload_n (pc := 5) (i := 1) dX2_goes_5 rfl rfl ?_
  refine a_ialdN (pc := 6) dX2_goes_6 (hx.s 37 rfl) (by decide) (hx.n (by decide)) (k := p) rfl ⟨hp, by decide⟩ ?_
  refine a_iload_n (pc := 7) (i := 2) dX2_goes_7 rfl rfl ?_
  rw [ea2]
  refine a_cVi (pc := 8) (c_roadOf hx a w ha hw) sX2_129_2 dX2_goes_8 (recv_obj (t := 2) rfl (hx.s 32 rfl) (by decide) (hx.n (by decide))) rfl rfl (by decide) (Nat.le_of_ble_eq_true rfl) ?_
  rw [el]
  refine a_istore_n (pc := 11) (i := 3) dX2_goes_11 rfl (by decide) rfl ?_
  refine a_aload_n (pc := 12) (i := 0) dX2_goes_12 rfl rfl ?_
  refine a_dup (pc := 13) dX2_goes_13 rfl ?_
  refine a_getI (pc := 14) dX2_goes_14 fX2_73_2 rfl (hx.s 32 rfl) (by decide) (hx.n (by decide)) ?_
  refine a_iload_n (pc := 17) (i := 3) dX2_goes_17 rfl rfl ?_
  refine a_iadd (pc := 18) dX2_goes_18 ?_
  refine a_putI (pc := 19) dX2_goes_19 fX2_73_2 (Or.inl rfl) rfl (hx.s 32 rfl) (by decide) (hx.n (by decide)) rfl rfl ?_
  refine a_aload_n (pc := 22) (i := 0) dX2_goes_22 rfl rfl ?_
  refine a_iload_n (pc := 23) (i := 1) dX2_goes_23 rfl rfl ?_
  refine a_aload_n (pc := 24) (i := 0) dX2_goes_24 rfl rfl ?_
  refine a_iload_n (pc := 25) (i := 1) dX2_goes_25 rfl rfl ?_
  refine a_iload_n (pc := 26) (i := 3) dX2_goes_26 rfl rfl ?_
  refine a_cVe (pc := 27) (c_parched (h := pI h 32 4 (gI h 32 4 + lenD D p w)) (D := up2 D 3 1 (gI h 32 4 + lenD D p w)) (by exact hx) wd.many.1 (RD.hour (by decide) rd _) p hp2 _) sX2_132_2 dX2_goes_27 (recv_obj (t := 2) rfl (hx.s 32 rfl) (by decide) (hx.n (by decide))) rfl rfl (by decide) (Nat.le_of_ble_eq_true rfl) (fun h2 e2 => ?_)
  have hx : Fx h2 := Fx.sm (h := pI h 32 4 (gI h 32 4 + lenD D p w)) hx e2
  have rd2 : RD h2 32 (up2 D 3 1 (gI h 32 4 + lenD D p w)) := RD.sm e2 (RD.hour (by decide) rd _)
  refine a_cVw (pc := 30) (c_thirsts32 hx rd2 p hp hp2 _) sX2_135_2 dX2_goes_30 (recv_obj (t := 2) rfl (hx.s 32 rfl) (by decide) (hx.n (by decide))) rfl rfl (by decide) (Nat.le_of_ble_eq_true rfl) (fun h3 e3 => ?_)
  have hx := hx.sm e3.2
  refine a_aload_n (pc := 33) (i := 0) dX2_goes_33 rfl rfl ?_
  refine a_getR (pc := 34) dX2_goes_34 fX2_31_2 rfl (hx.s 32 rfl) (by decide) (hx.n (by decide)) (hx.r 32 8 37 rfl) ?_
  refine a_iload_n (pc := 37) (i := 1) dX2_goes_37 rfl rfl ?_
  refine a_iload_n (pc := 38) (i := 2) dX2_goes_38 rfl rfl ?_
  refine a_iastN (pc := 39) dX2_goes_39 (hx.s 37 rfl) (by decide) (hx.n (by decide)) (k := p) rfl ⟨hp, by decide⟩ ?_
  exact a_vret (pc := 40) dX2_goes_40 rfl (eV_of ⟨by unfold goeD; rw [← rd.iHour]; exact RD.at (by decide) e3.1 p _, (((((Sm.rf h).pI 32 _ _).tr e2.mono).tr e3.2.mono)).pI 37 _ _⟩)
theorem c_draw {g : Gl} {h : AH} (hx : Fx h) : AM g 1 mX2_draw [.ref 32] h (rI (dwz (nxz (gI h 32 13))) (pI h 32 13 (nxz (gI h 32 13)))) := by
  refine AM.of (by decide) (Nat.le_of_ble_eq_true rfl) ?_
  show AW g mX2_draw 1 _ 0 [some (.ref 32)] [] h
  refine a_aload_n (pc := 0) (i := 0) dX2_draw_0 rfl rfl ?_
  refine a_aload_n (pc := 1) (i := 0) dX2_draw_1 rfl rfl ?_
  refine a_getI (pc := 2) dX2_draw_2 fX2_50_2 rfl (hx.s 32 rfl) (by decide) (hx.n (by decide)) ?_
  refine a_ldc (pc := 5) dX2_draw_5 q1000 ?_
  refine a_imul (pc := 7) dX2_draw_7 ?_
  refine a_sipush (pc := 8) (v := 12345) dX2_draw_8 (by decide) ?_
  refine a_iadd (pc := 11) dX2_draw_11 ?_
  refine a_putI (pc := 12) dX2_draw_12 fX2_50_2 (Or.inl rfl) rfl (hx.s 32 rfl) (by decide) (hx.n (by decide)) rfl rfl ?_
  refine a_aload_n (pc := 15) (i := 0) dX2_draw_15 rfl rfl ?_
  refine a_getI (pc := 16) dX2_draw_16 fX2_50_2 rfl (hx.s 32 rfl) (by decide) (hx.n (by decide)) ?_
  refine a_bipush (pc := 19) (v := 8) dX2_draw_19 (by decide) ?_
  refine a_iushr (pc := 21) dX2_draw_21 ?_
  exact a_iret (pc := 22) dX2_draw_22 rfl (rI_of rfl rfl)
theorem dwz_mod (z : Int32) (m : Nat) (h0 : 0 < m) (hm : m < 2 ^ 31) : ∃ j : Nat, j < m ∧ dwz z - dwz z / nI m * nI m = nI j := by
  have hz : ∃ k : Nat, k < 2 ^ 31 ∧ dwz z = nI k := by
    have e : z = nI z.toBitVec.toNat := by
      apply Int32.toBitVec_inj.mp
      show z.toBitVec = BitVec.ofNat 32 z.toBitVec.toNat
      rw [BitVec.ofNat_toNat, BitVec.setWidth_eq]
    refine ⟨z.toBitVec.toNat / 2 ^ 8, ?_, ?_⟩
    · have := z.toBitVec.isLt
      omega
    · unfold dwz
      conv => lhs; rw [e]
      exact pk_ushrN z.toBitVec.isLt 8 8 (by decide)
  obtain ⟨k, hk, e⟩ := hz
  rw [e]
  exact ⟨k % m, Nat.mod_lt _ h0, pk_rem hk h0 hm⟩
theorem c_goesLoose {g : Gl} {h : AH} (hx : Fx h) {D : De} (hm : upto 6 (D 3 3)) (rd : RD h 32 D) : AM g 78 mX2_goesLoose [.ref 32] h (eV (fun h2 => RD h2 32 (looD D) ∧ Sm [32, 33, 39, 40] h h2)) := by
  refine AM.of (by decide) (Nat.le_of_ble_eq_true rfl) ?_
  show AW g mX2_goesLoose 78 _ 0 [some (.ref 32)] [] h
  obtain ⟨j, hj, ej⟩ := dwz_mod (nxz (gI h 32 13)) 8 (by decide) (by decide)
  have tj := tn_nI (n := j) (by omega)
  have ez := rd.iZ
  refine a_aload_n (pc := 0) (i := 0) dX2_goesLoose_0 rfl rfl ?_
  refine a_cVi (pc := 1) (c_draw (by exact hx)) sX2_140_2 dX2_goesLoose_1 (recv_obj (t := 2) rfl (hx.s 32 rfl) (by decide) (hx.n (by decide))) rfl rfl (by decide) (Nat.le_of_ble_eq_true rfl) ?_
  refine a_bipush (pc := 4) (v := 8) dX2_goesLoose_4 (by decide) ?_
  refine a_irem (pc := 6) dX2_goesLoose_6 (by decide) ?_
  refine a_istore_n (pc := 7) (i := 1) dX2_goesLoose_7 rfl (by decide) rfl ?_
  refine a_aload_n (pc := 8) (i := 0) dX2_goesLoose_8 rfl rfl ?_
  refine a_getR (pc := 9) dX2_goesLoose_9 fX2_9_2 rfl (hx.s 32 rfl) (by decide) (hx.n (by decide)) (hx.r 32 0 33 rfl) ?_
  refine a_iload_n (pc := 12) (i := 1) dX2_goesLoose_12 rfl rfl ?_
  refine a_aload_n (pc := 13) (i := 0) dX2_goesLoose_13 rfl rfl ?_
  refine a_cVi (pc := 14) (c_draw (by exact hx)) sX2_140_2 dX2_goesLoose_14 (recv_obj (t := 2) rfl (hx.s 32 rfl) (by decide) (hx.n (by decide))) rfl rfl (by decide) (Nat.le_of_ble_eq_true rfl) ?_
  refine a_bipush (pc := 17) (v := 20) dX2_goesLoose_17 (by decide) ?_
  refine a_irem (pc := 19) dX2_goesLoose_19 (by decide) ?_
  refine a_iastN (pc := 20) dX2_goesLoose_20 (hx.s 33 rfl) (by decide) (hx.n (by decide)) (k := j) ej ⟨by omega, by decide⟩ ?_
  refine a_aload_n (pc := 21) (i := 0) dX2_goesLoose_21 rfl rfl ?_
  refine a_cVw (pc := 22) (c_passes32 (by exact hx) (D := up2 (drwD (drwD D)) 0 j (dwz (nxz (nxz (D 3 4))) - dwz (nxz (nxz (D 3 4))) / 20 * 20)) hm (by rw [← ez]; unfold drwD; rw [← ez]; exact RD.water (by decide) (RD.z (by decide) (RD.z (by decide) rd _) _) j _)) sX2_143_2 dX2_goesLoose_22 (recv_obj (t := 2) rfl (hx.s 32 rfl) (by decide) (hx.n (by decide))) rfl rfl (by decide) (Nat.le_of_ble_eq_true rfl) (fun h3 e3 => ?_)
  exact a_vret (pc := 25) dX2_goesLoose_25 rfl (eV_of ⟨by unfold looD; rw [← ez, show dwz (nxz (gI h 32 13)) - dwz (nxz (gI h 32 13)) / 8 * 8 = nI j from ej, tj, ez]; exact e3.1, ((((Sm.rf h).pI 32 _ _).pI 32 _ _).pI 33 _ _).tr e3.2.mono⟩)
/-- a desert laid over another: refs of two arrays change too -/
def Bc (b : Nat) (h h' : AH) : Prop := h'.2.2 = h.2.2 ∧ (∀ a, ¬ (b ≤ a ∧ a ≤ b + 11) → ∀ k, gI h' a k = gI h a k) ∧ ∀ a, a ≠ b + 4 → a ≠ b + 9 → ∀ k, gR h' a k = gR h a k
theorem gI_pCR (h : AH) (a c n b j : Nat) : gI (pCR h a c n) b j = gI h b j := rfl
theorem gR_pC (h : AH) (a c n b j : Nat) : gR (pC h a c n) b j = gR h b j := rfl
theorem Bc.xa {b : Nat} {h h' : AH} (q : Bc b h h') (hb : b + 11 < 96) : Xa h h' := by
  have e1 : gS h' = gS h := congrArg (fun q => q.1) q.1
  have e2 : gN h' = gN h := congrArg (fun q => q.2.1) q.1
  exact ⟨by rw [e2]; exact Nat.le_refl _, fun a h1 h2 => ⟨by rw [e1], fun k => ⟨q.2.1 a (by omega) k, q.2.2 a (by omega) (by omega) k⟩⟩⟩
theorem RD.copy {h H : AH} {b s : Nat} {D : De} (hb : b + 11 < 96) (bc : Bc b h H) (rd : RD h s D) (e1 : ∀ w, w < 8 → gI H (b + 1) w = gI h (s + 1) w) (e2 : ∀ w, w < 64 → gI H (b + 2) w = gI h (s + 2) w) (e3 : ∀ w, w < 64 → gI H (b + 3) w = gI h (s + 3) w) (e4 : ∀ w, w ∈ [3, 4, 5, 6, 13, 15, 17] → gI H b w = gI h s w) (e5 : ∀ w, w < 6 → gI H (b + 5) w = gI h (s + 5) w) (e6 : ∀ w, w < 6 → gI H (b + 6) w = gI h (s + 6) w) (e7 : ∀ w, w < 6 → gI H (b + 7) w = gI h (s + 7) w) (e8 : ∀ w, w < 6 → gI H (b + 8) w = gI h (s + 8) w) (e9 : ∀ w, w < 50 → gI H (b + 10) w = gI h (s + 10) w) (e10 : ∀ w, w < 20 → gI H (b + 11) w = gI h (s + 11) w) (e11 : ∀ w, w < 6 → gR H (b + 4) w = gR h (s + 4) w) (e12 : ∀ w, w < 2 → gR H (b + 9) w = gR h (s + 9) w) (hm : tn (D 3 3) ≤ 6) : b = b ∧ RD H b D ∧ Bc b h H := by
  refine ⟨rfl, ?_, bc⟩
  have x := (bc.xa hb).t
  refine ⟨fun w hw => (e1 w hw).trans (rd.iW w hw), fun w hw => (e2 w hw).trans (rd.iR w hw), fun w hw => (e3 w hw).trans (rd.iO w hw), ?_, fun w hw => (e5 w hw).trans (rd.iA w hw), fun w hw => (e6 w hw).trans (rd.iN w hw), fun w hw => (e7 w hw).trans (rd.iT w hw), fun w hw => (e8 w hw).trans (rd.iD w hw), fun w hw => by rw [e9 w hw]; exact rd.iP w hw, fun w hw => (e10 w hw).trans (rd.iQ w hw), ⟨fun p hp => ?_, fun p hp h2 => (e11 p hp).trans (rd.iU.2 p hp h2)⟩, fun u hu => ?_⟩
  · exact ⟨(e4 3 (by decide)).trans rd.iRain, (e4 4 (by decide)).trans rd.iHour, (e4 5 (by decide)).trans rd.iDay, (e4 6 (by decide)).trans rd.iMany, (e4 13 (by decide)).trans rd.iZ, (e4 15 (by decide)).trans rd.iTaped, (e4 17 (by decide)).trans rd.iWaits⟩
  · obtain ⟨r, e, pr⟩ := rd.iU.1 p hp
    exact ⟨r, (e11 p (by omega)).trans e, pr.xt x⟩
  · rw [e12 u hu]
    rcases rd.iX u hu with q | ⟨r, v, q1, q2, q3, q4⟩
    · exact Or.inl q
    · exact Or.inr ⟨r, v, q1, q2, q3, TOK.xt x _ _ _ q4⟩
theorem ast_pp (t : Nat) (h : t ≤ 6) : AstOK (7 + t) 44 := by
  have : t = 0 ∨ t = 1 ∨ t = 2 ∨ t = 3 ∨ t = 4 ∨ t = 5 ∨ t = 6 := by omega
  rcases this with rfl | rfl | rfl | rfl | rfl | rfl | rfl
  · exact ast_7_44
  · exact ast_8_44
  · exact ast_9_44
  · exact ast_10_44
  · exact ast_11_44
  · exact ast_12_44
  · exact ast_13_44
theorem tok_el {h : AH} : ∀ {n r : Nat} {v : Vf}, TOK h n r v → ∃ ty ly, gS h r = (ty, ly) ∧ 30 ≤ r ∧ r < gN h ∧ AstOK ty 45
  | 0, _, _, q => absurd q id
  | n + 1, r, v, ⟨h1, h2, q⟩ => by
    rcases q with ⟨s, -⟩ | ⟨s, -⟩ | ⟨s, -⟩ | ⟨s, -⟩
    · exact ⟨20, 0, s, by omega, h2, ast_20_45⟩
    · exact ⟨17, 0, s, by omega, h2, ast_17_45⟩
    · exact ⟨19, 0, s, by omega, h2, ast_19_45⟩
    · exact ⟨15, 0, s, by omega, h2, ast_15_45⟩
theorem el_p {h : AH} {s : Nat} {D : De} (rd : RD h s D) (i : Nat) (hi : i < 6) (y : Nat) (hy : gR h (s + 4) i = some y) : ∃ ty ly, gS h y = (ty, ly) ∧ 30 ≤ y ∧ y < gN h ∧ AstOK ty 44 := by
  rcases Nat.lt_or_ge i (tn (D 3 3)) with q | q
  · obtain ⟨r, e, pr⟩ := rd.iU.1 i q
    obtain ⟨t0, t1, -, t2, t3, t4, -⟩ := pr.sh
    cases e.symm.trans hy
    exact ⟨7 + t0, 0, t4, by omega, t3, ast_pp t0 t1⟩
  · cases (rd.iU.2 i hi q).symm.trans hy
theorem el_t {h : AH} {s : Nat} {D : De} (rd : RD h s D) (i : Nat) (hi : i < 2) (y : Nat) (hy : gR h (s + 9) i = some y) : ∃ ty ly, gS h y = (ty, ly) ∧ 30 ≤ y ∧ y < gN h ∧ AstOK ty 45 := by
  rcases rd.iX i hi with ⟨-, e⟩ | ⟨r, v, -, e, -, tk⟩
  · cases e.symm.trans hy
  · cases e.symm.trans hy
    exact tok_el tk
theorem c_become46 {g : Gl} {h : AH} (hx : Fx h) {D : De} (wd : ∀ p, p < 6 → D 9 p = 0 ∨ D 9 p = 1) (hm : tn (D 3 3) ≤ 6) (rd : RD h 32 D) : AM g 3 mX2_become [.ref 46, .ref 32] h (eR (fun r h2 => r = 46 ∧ RD h2 46 D ∧ Bc 46 h h2)) := by
  refine AM.of (by decide) (Nat.le_of_ble_eq_true rfl) ?_
  show AW g mX2_become 3 _ 0 [some (.ref 46), some (.ref 32)] [] h
  refine a_aload_n (pc := 0) (i := 1) dX2_become_0 rfl rfl ?_
  refine a_getR (pc := 1) dX2_become_1 fX2_9_2 rfl (hx.s 32 rfl) (by decide) (hx.n (by decide)) (hx.r 32 0 33 rfl) ?_
  refine a_iconst (pc := 4) (v := 0) dX2_become_4 (by decide) ?_
  refine a_aload_n (pc := 5) (i := 0) dX2_become_5 rfl rfl ?_
  refine a_getR (pc := 6) dX2_become_6 fX2_9_2 rfl (hx.s 46 rfl) (by decide) (hx.n (by decide)) (hx.r 46 0 47 rfl) ?_
  refine a_iconst (pc := 9) (v := 0) dX2_become_9 (by decide) ?_
  refine a_bipush (pc := 10) (v := 8) dX2_become_10 (by decide) ?_
  refine a_copyI (pc := 12) (N := 8) dX2_become_12 sX2_67 (hx.s 33 rfl) (by decide) (hx.n (by decide)) (hx.s 47 rfl) (by decide) (hx.n (by decide)) (by decide) (by decide) (by decide) rfl (by decide) (by decide) (fun i _ => rfl) (by decide) (Nat.le_of_ble_eq_true rfl) ?_
  refine a_aload_n (pc := 15) (i := 1) dX2_become_15 rfl rfl ?_
  refine a_getR (pc := 16) dX2_become_16 fX2_15_2 rfl (hx.s 32 rfl) (by decide) (hx.n (by decide)) (hx.r 32 1 34 rfl) ?_
  refine a_iconst (pc := 19) (v := 0) dX2_become_19 (by decide) ?_
  refine a_aload_n (pc := 20) (i := 0) dX2_become_20 rfl rfl ?_
  refine a_getR (pc := 21) dX2_become_21 fX2_15_2 rfl (hx.s 46 rfl) (by decide) (hx.n (by decide)) (hx.r 46 1 48 rfl) ?_
  refine a_iconst (pc := 24) (v := 0) dX2_become_24 (by decide) ?_
  refine a_bipush (pc := 25) (v := 64) dX2_become_25 (by decide) ?_
  refine a_copyI (pc := 27) (N := 64) dX2_become_27 sX2_67 (hx.s 34 rfl) (by decide) (hx.n (by decide)) (hx.s 48 rfl) (by decide) (hx.n (by decide)) (by decide) (by decide) (by decide) rfl (by decide) (by decide) (fun i _ => rfl) (by decide) (Nat.le_of_ble_eq_true rfl) ?_
  refine a_aload_n (pc := 30) (i := 1) dX2_become_30 rfl rfl ?_
  refine a_getR (pc := 31) dX2_become_31 fX2_18_2 rfl (hx.s 32 rfl) (by decide) (hx.n (by decide)) (hx.r 32 2 35 rfl) ?_
  refine a_iconst (pc := 34) (v := 0) dX2_become_34 (by decide) ?_
  refine a_aload_n (pc := 35) (i := 0) dX2_become_35 rfl rfl ?_
  refine a_getR (pc := 36) dX2_become_36 fX2_18_2 rfl (hx.s 46 rfl) (by decide) (hx.n (by decide)) (hx.r 46 2 49 rfl) ?_
  refine a_iconst (pc := 39) (v := 0) dX2_become_39 (by decide) ?_
  refine a_bipush (pc := 40) (v := 64) dX2_become_40 (by decide) ?_
  refine a_copyI (pc := 42) (N := 64) dX2_become_42 sX2_67 (hx.s 35 rfl) (by decide) (hx.n (by decide)) (hx.s 49 rfl) (by decide) (hx.n (by decide)) (by decide) (by decide) (by decide) rfl (by decide) (by decide) (fun i _ => rfl) (by decide) (Nat.le_of_ble_eq_true rfl) ?_
  refine a_aload_n (pc := 45) (i := 0) dX2_become_45 rfl rfl ?_
  refine a_aload_n (pc := 46) (i := 1) dX2_become_46 rfl rfl ?_
  refine a_getI (pc := 47) dX2_become_47 fX2_21_2 rfl (hx.s 32 rfl) (by decide) (hx.n (by decide)) ?_
  refine a_putI (pc := 50) dX2_become_50 fX2_21_2 (Or.inl rfl) rfl (hx.s 46 rfl) (by decide) (hx.n (by decide)) rfl rfl ?_
  refine a_aload_n (pc := 53) (i := 0) dX2_become_53 rfl rfl ?_
  refine a_aload_n (pc := 54) (i := 1) dX2_become_54 rfl rfl ?_
  refine a_getI (pc := 55) dX2_become_55 fX2_73_2 rfl (hx.s 32 rfl) (by decide) (hx.n (by decide)) ?_
  refine a_putI (pc := 58) dX2_become_58 fX2_73_2 (Or.inl rfl) rfl (hx.s 46 rfl) (by decide) (hx.n (by decide)) rfl rfl ?_
  refine a_aload_n (pc := 61) (i := 0) dX2_become_61 rfl rfl ?_
  refine a_aload_n (pc := 62) (i := 1) dX2_become_62 rfl rfl ?_
  refine a_getI (pc := 63) dX2_become_63 fX2_76_2 rfl (hx.s 32 rfl) (by decide) (hx.n (by decide)) ?_
  refine a_putI (pc := 66) dX2_become_66 fX2_76_2 (Or.inl rfl) rfl (hx.s 46 rfl) (by decide) (hx.n (by decide)) rfl rfl ?_
  refine a_aload_n (pc := 69) (i := 0) dX2_become_69 rfl rfl ?_
  refine a_aload_n (pc := 70) (i := 1) dX2_become_70 rfl rfl ?_
  refine a_getI (pc := 71) dX2_become_71 fX2_79_2 rfl (hx.s 32 rfl) (by decide) (hx.n (by decide)) ?_
  refine a_putI (pc := 74) dX2_become_74 fX2_79_2 (Or.inl rfl) rfl (hx.s 46 rfl) (by decide) (hx.n (by decide)) rfl rfl ?_
  refine a_aload_n (pc := 77) (i := 1) dX2_become_77 rfl rfl ?_
  refine a_getR (pc := 78) dX2_become_78 fX2_27_2 rfl (hx.s 32 rfl) (by decide) (hx.n (by decide)) (hx.r 32 7 36 rfl) ?_
  refine a_iconst (pc := 81) (v := 0) dX2_become_81 (by decide) ?_
  refine a_aload_n (pc := 82) (i := 0) dX2_become_82 rfl rfl ?_
  refine a_getR (pc := 83) dX2_become_83 fX2_27_2 rfl (hx.s 46 rfl) (by decide) (hx.n (by decide)) (hx.r 46 7 50 rfl) ?_
  refine a_iconst (pc := 86) (v := 0) dX2_become_86 (by decide) ?_
  refine a_bipush (pc := 87) (v := 6) dX2_become_87 (by decide) ?_
  refine a_copyR (pc := 89) (N := 6) dX2_become_89 sX2_67 (hx.s 36 rfl) (by decide) (hx.n (by decide)) (hx.s 50 rfl) (by decide) (hx.n (by decide)) (by decide) (by decide) (by decide) rfl (by decide) (by decide) (fun i hi y hy => el_p rd i hi y hy) (by decide) (Nat.le_of_ble_eq_true rfl) ?_
  have hx := hx
  refine a_aload_n (pc := 92) (i := 1) dX2_become_92 rfl rfl ?_
  refine a_getR (pc := 93) dX2_become_93 fX2_31_2 rfl (hx.s 32 rfl) (by decide) (hx.n (by decide)) (hx.r 32 8 37 rfl) ?_
  refine a_iconst (pc := 96) (v := 0) dX2_become_96 (by decide) ?_
  refine a_aload_n (pc := 97) (i := 0) dX2_become_97 rfl rfl ?_
  refine a_getR (pc := 98) dX2_become_98 fX2_31_2 rfl (hx.s 46 rfl) (by decide) (hx.n (by decide)) (hx.r 46 8 51 rfl) ?_
  refine a_iconst (pc := 101) (v := 0) dX2_become_101 (by decide) ?_
  refine a_bipush (pc := 102) (v := 6) dX2_become_102 (by decide) ?_
  refine a_copyI (pc := 104) (N := 6) dX2_become_104 sX2_67 (hx.s 37 rfl) (by decide) (hx.n (by decide)) (hx.s 51 rfl) (by decide) (hx.n (by decide)) (by decide) (by decide) (by decide) rfl (by decide) (by decide) (fun i _ => rfl) (by decide) (Nat.le_of_ble_eq_true rfl) ?_
  refine a_aload_n (pc := 107) (i := 1) dX2_become_107 rfl rfl ?_
  refine a_getR (pc := 108) dX2_become_108 fX2_34_2 rfl (hx.s 32 rfl) (by decide) (hx.n (by decide)) (hx.r 32 9 38 rfl) ?_
  refine a_iconst (pc := 111) (v := 0) dX2_become_111 (by decide) ?_
  refine a_aload_n (pc := 112) (i := 0) dX2_become_112 rfl rfl ?_
  refine a_getR (pc := 113) dX2_become_113 fX2_34_2 rfl (hx.s 46 rfl) (by decide) (hx.n (by decide)) (hx.r 46 9 52 rfl) ?_
  refine a_iconst (pc := 116) (v := 0) dX2_become_116 (by decide) ?_
  refine a_bipush (pc := 117) (v := 6) dX2_become_117 (by decide) ?_
  refine a_copyI (pc := 119) (N := 6) dX2_become_119 sX2_67 (hx.s 38 rfl) (by decide) (hx.n (by decide)) (hx.s 52 rfl) (by decide) (hx.n (by decide)) (by decide) (by decide) (by decide) rfl (by decide) (by decide) (fun i _ => rfl) (by decide) (Nat.le_of_ble_eq_true rfl) ?_
  refine a_aload_n (pc := 122) (i := 1) dX2_become_122 rfl rfl ?_
  refine a_getR (pc := 123) dX2_become_123 fX2_37_2 rfl (hx.s 32 rfl) (by decide) (hx.n (by decide)) (hx.r 32 10 39 rfl) ?_
  refine a_iconst (pc := 126) (v := 0) dX2_become_126 (by decide) ?_
  refine a_aload_n (pc := 127) (i := 0) dX2_become_127 rfl rfl ?_
  refine a_getR (pc := 128) dX2_become_128 fX2_37_2 rfl (hx.s 46 rfl) (by decide) (hx.n (by decide)) (hx.r 46 10 53 rfl) ?_
  refine a_iconst (pc := 131) (v := 0) dX2_become_131 (by decide) ?_
  refine a_bipush (pc := 132) (v := 6) dX2_become_132 (by decide) ?_
  refine a_copyI (pc := 134) (N := 6) dX2_become_134 sX2_67 (hx.s 39 rfl) (by decide) (hx.n (by decide)) (hx.s 53 rfl) (by decide) (hx.n (by decide)) (by decide) (by decide) (by decide) rfl (by decide) (by decide) (fun i _ => rfl) (by decide) (Nat.le_of_ble_eq_true rfl) ?_
  refine a_aload_n (pc := 137) (i := 1) dX2_become_137 rfl rfl ?_
  refine a_getR (pc := 138) dX2_become_138 fX2_40_2 rfl (hx.s 32 rfl) (by decide) (hx.n (by decide)) (hx.r 32 11 40 rfl) ?_
  refine a_iconst (pc := 141) (v := 0) dX2_become_141 (by decide) ?_
  refine a_aload_n (pc := 142) (i := 0) dX2_become_142 rfl rfl ?_
  refine a_getR (pc := 143) dX2_become_143 fX2_40_2 rfl (hx.s 46 rfl) (by decide) (hx.n (by decide)) (hx.r 46 11 54 rfl) ?_
  refine a_iconst (pc := 146) (v := 0) dX2_become_146 (by decide) ?_
  refine a_bipush (pc := 147) (v := 6) dX2_become_147 (by decide) ?_
  refine a_copyI (pc := 149) (N := 6) dX2_become_149 sX2_67 (hx.s 40 rfl) (by decide) (hx.n (by decide)) (hx.s 54 rfl) (by decide) (hx.n (by decide)) (by decide) (by decide) (by decide) rfl (by decide) (by decide) (fun i hi => by show fits .boolean (.int (gI h 40 i)) = true; rw [show gI h 40 i = _ from rd.iD i hi]; rcases wd i hi with e | e <;> rw [e] <;> rfl) (by decide) (Nat.le_of_ble_eq_true rfl) ?_
  refine a_aload_n (pc := 152) (i := 1) dX2_become_152 rfl rfl ?_
  refine a_getR (pc := 153) dX2_become_153 fX2_46_2 rfl (hx.s 32 rfl) (by decide) (hx.n (by decide)) (hx.r 32 12 41 rfl) ?_
  refine a_iconst (pc := 156) (v := 0) dX2_become_156 (by decide) ?_
  refine a_aload_n (pc := 157) (i := 0) dX2_become_157 rfl rfl ?_
  refine a_getR (pc := 158) dX2_become_158 fX2_46_2 rfl (hx.s 46 rfl) (by decide) (hx.n (by decide)) (hx.r 46 12 55 rfl) ?_
  refine a_iconst (pc := 161) (v := 0) dX2_become_161 (by decide) ?_
  refine a_iconst (pc := 162) (v := 2) dX2_become_162 (by decide) ?_
  refine a_copyR (pc := 163) (N := 2) dX2_become_163 sX2_67 (hx.s 41 rfl) (by decide) (hx.n (by decide)) (hx.s 55 rfl) (by decide) (hx.n (by decide)) (by decide) (by decide) (by decide) rfl (by decide) (by decide) (fun i hi y hy => el_t rd i hi y hy) (by decide) (Nat.le_of_ble_eq_true rfl) ?_
  refine a_aload_n (pc := 166) (i := 0) dX2_become_166 rfl rfl ?_
  refine a_aload_n (pc := 167) (i := 1) dX2_become_167 rfl rfl ?_
  refine a_getI (pc := 168) dX2_become_168 fX2_50_2 rfl (hx.s 32 rfl) (by decide) (hx.n (by decide)) ?_
  refine a_putI (pc := 171) dX2_become_171 fX2_50_2 (Or.inl rfl) rfl (hx.s 46 rfl) (by decide) (hx.n (by decide)) rfl rfl ?_
  refine a_aload_n (pc := 174) (i := 1) dX2_become_174 rfl rfl ?_
  refine a_getR (pc := 175) dX2_become_175 fX2_53_2 rfl (hx.s 32 rfl) (by decide) (hx.n (by decide)) (hx.r 32 14 42 rfl) ?_
  refine a_iconst (pc := 178) (v := 0) dX2_become_178 (by decide) ?_
  refine a_aload_n (pc := 179) (i := 0) dX2_become_179 rfl rfl ?_
  refine a_getR (pc := 180) dX2_become_180 fX2_53_2 rfl (hx.s 46 rfl) (by decide) (hx.n (by decide)) (hx.r 46 14 56 rfl) ?_
  refine a_iconst (pc := 183) (v := 0) dX2_become_183 (by decide) ?_
  refine a_bipush (pc := 184) (v := 50) dX2_become_184 (by decide) ?_
  refine a_copyI (pc := 186) (N := 50) dX2_become_186 sX2_67 (hx.s 42 rfl) (by decide) (hx.n (by decide)) (hx.s 56 rfl) (by decide) (hx.n (by decide)) (by decide) (by decide) (by decide) rfl (by decide) (by decide) (fun i hi => (rd.iP i hi).2) (by decide) (Nat.le_of_ble_eq_true rfl) ?_
  refine a_aload_n (pc := 189) (i := 0) dX2_become_189 rfl rfl ?_
  refine a_aload_n (pc := 190) (i := 1) dX2_become_190 rfl rfl ?_
  refine a_getI (pc := 191) dX2_become_191 fX2_82_2 rfl (hx.s 32 rfl) (by decide) (hx.n (by decide)) ?_
  refine a_putI (pc := 194) dX2_become_194 fX2_82_2 (Or.inl rfl) rfl (hx.s 46 rfl) (by decide) (hx.n (by decide)) rfl rfl ?_
  refine a_aload_n (pc := 197) (i := 1) dX2_become_197 rfl rfl ?_
  refine a_getR (pc := 198) dX2_become_198 fX2_57_2 rfl (hx.s 32 rfl) (by decide) (hx.n (by decide)) (hx.r 32 16 43 rfl) ?_
  refine a_iconst (pc := 201) (v := 0) dX2_become_201 (by decide) ?_
  refine a_aload_n (pc := 202) (i := 0) dX2_become_202 rfl rfl ?_
  refine a_getR (pc := 203) dX2_become_203 fX2_57_2 rfl (hx.s 46 rfl) (by decide) (hx.n (by decide)) (hx.r 46 16 57 rfl) ?_
  refine a_iconst (pc := 206) (v := 0) dX2_become_206 (by decide) ?_
  refine a_bipush (pc := 207) (v := 20) dX2_become_207 (by decide) ?_
  refine a_copyI (pc := 209) (N := 20) dX2_become_209 sX2_67 (hx.s 43 rfl) (by decide) (hx.n (by decide)) (hx.s 57 rfl) (by decide) (hx.n (by decide)) (by decide) (by decide) (by decide) rfl (by decide) (by decide) (fun i _ => rfl) (by decide) (Nat.le_of_ble_eq_true rfl) ?_
  refine a_aload_n (pc := 212) (i := 0) dX2_become_212 rfl rfl ?_
  refine a_aload_n (pc := 213) (i := 1) dX2_become_213 rfl rfl ?_
  refine a_getI (pc := 214) dX2_become_214 fX2_85_2 rfl (hx.s 32 rfl) (by decide) (hx.n (by decide)) ?_
  refine a_putI (pc := 217) dX2_become_217 fX2_85_2 (Or.inl rfl) rfl (hx.s 46 rfl) (by decide) (hx.n (by decide)) rfl rfl ?_
  refine a_aload_n (pc := 220) (i := 0) dX2_become_220 rfl rfl ?_
  exact a_aret (pc := 221) (r := some 46) rfl dX2_become_221 rfl rfl (eR_of (RD.copy (b := 46) (by decide) ⟨rfl, fun a ha k => by (have n (j : Nat) (hj : j ≤ 11) : ¬ a = 46 + j := by omega); have n0 := n 0 (by decide); have n1 := n 1 (by decide); have n2 := n 2 (by decide); have n3 := n 3 (by decide); have n5 := n 5 (by decide); have n6 := n 6 (by decide); have n7 := n 7 (by decide); have n8 := n 8 (by decide); have n10 := n 10 (by decide); have n11 := n 11 (by decide); simp only [Nat.reduceAdd] at n0 n1 n2 n3 n5 n6 n7 n8 n10 n11; simp only [gI_pI, gI_pC, gI_pCR, n0, n1, n2, n3, n5, n6, n7, n8, n10, n11, if_false], fun a n4 n9 k => by simp only [Nat.reduceAdd] at n4 n9; simp only [gR_pI, gR_pC, gR_pCR, n4, n9, if_false]⟩ rd (fun w hw => show (if w < 8 then gI h 33 w else gI h 47 w) = _ from if_pos hw) (fun w hw => show (if w < 64 then gI h 34 w else gI h 48 w) = _ from if_pos hw) (fun w hw => show (if w < 64 then gI h 35 w else gI h 49 w) = _ from if_pos hw) (fun w hw => by simp only [List.mem_cons, List.not_mem_nil, or_false] at hw; rcases hw with rfl | rfl | rfl | rfl | rfl | rfl | rfl <;> rfl) (fun w hw => show (if w < 6 then gI h 37 w else gI h 51 w) = _ from if_pos hw) (fun w hw => show (if w < 6 then gI h 38 w else gI h 52 w) = _ from if_pos hw) (fun w hw => show (if w < 6 then gI h 39 w else gI h 53 w) = _ from if_pos hw) (fun w hw => show (if w < 6 then gI h 40 w else gI h 54 w) = _ from if_pos hw) (fun w hw => show (if w < 50 then gI h 42 w else gI h 56 w) = _ from if_pos hw) (fun w hw => show (if w < 20 then gI h 43 w else gI h 57 w) = _ from if_pos hw) (fun w hw => show (if w < 6 then gR h 36 w else gR h 50 w) = _ from if_pos hw) (fun w hw => show (if w < 2 then gR h 41 w else gR h 55 w) = _ from if_pos hw) hm))
theorem c_become32 {g : Gl} {h : AH} (hx : Fx h) {D : De} (wd : ∀ p, p < 6 → D 9 p = 0 ∨ D 9 p = 1) (hm : tn (D 3 3) ≤ 6) (rd : RD h 46 D) : AM g 3 mX2_become [.ref 32, .ref 46] h (eR (fun r h2 => r = 32 ∧ RD h2 32 D ∧ Bc 32 h h2)) := by
  refine AM.of (by decide) (Nat.le_of_ble_eq_true rfl) ?_
  show AW g mX2_become 3 _ 0 [some (.ref 32), some (.ref 46)] [] h
  refine a_aload_n (pc := 0) (i := 1) dX2_become_0 rfl rfl ?_
  refine a_getR (pc := 1) dX2_become_1 fX2_9_2 rfl (hx.s 46 rfl) (by decide) (hx.n (by decide)) (hx.r 46 0 47 rfl) ?_
  refine a_iconst (pc := 4) (v := 0) dX2_become_4 (by decide) ?_
  refine a_aload_n (pc := 5) (i := 0) dX2_become_5 rfl rfl ?_
  refine a_getR (pc := 6) dX2_become_6 fX2_9_2 rfl (hx.s 32 rfl) (by decide) (hx.n (by decide)) (hx.r 32 0 33 rfl) ?_
  refine a_iconst (pc := 9) (v := 0) dX2_become_9 (by decide) ?_
  refine a_bipush (pc := 10) (v := 8) dX2_become_10 (by decide) ?_
  refine a_copyI (pc := 12) (N := 8) dX2_become_12 sX2_67 (hx.s 47 rfl) (by decide) (hx.n (by decide)) (hx.s 33 rfl) (by decide) (hx.n (by decide)) (by decide) (by decide) (by decide) rfl (by decide) (by decide) (fun i _ => rfl) (by decide) (Nat.le_of_ble_eq_true rfl) ?_
  refine a_aload_n (pc := 15) (i := 1) dX2_become_15 rfl rfl ?_
  refine a_getR (pc := 16) dX2_become_16 fX2_15_2 rfl (hx.s 46 rfl) (by decide) (hx.n (by decide)) (hx.r 46 1 48 rfl) ?_
  refine a_iconst (pc := 19) (v := 0) dX2_become_19 (by decide) ?_
  refine a_aload_n (pc := 20) (i := 0) dX2_become_20 rfl rfl ?_
  refine a_getR (pc := 21) dX2_become_21 fX2_15_2 rfl (hx.s 32 rfl) (by decide) (hx.n (by decide)) (hx.r 32 1 34 rfl) ?_
  refine a_iconst (pc := 24) (v := 0) dX2_become_24 (by decide) ?_
  refine a_bipush (pc := 25) (v := 64) dX2_become_25 (by decide) ?_
  refine a_copyI (pc := 27) (N := 64) dX2_become_27 sX2_67 (hx.s 48 rfl) (by decide) (hx.n (by decide)) (hx.s 34 rfl) (by decide) (hx.n (by decide)) (by decide) (by decide) (by decide) rfl (by decide) (by decide) (fun i _ => rfl) (by decide) (Nat.le_of_ble_eq_true rfl) ?_
  refine a_aload_n (pc := 30) (i := 1) dX2_become_30 rfl rfl ?_
  refine a_getR (pc := 31) dX2_become_31 fX2_18_2 rfl (hx.s 46 rfl) (by decide) (hx.n (by decide)) (hx.r 46 2 49 rfl) ?_
  refine a_iconst (pc := 34) (v := 0) dX2_become_34 (by decide) ?_
  refine a_aload_n (pc := 35) (i := 0) dX2_become_35 rfl rfl ?_
  refine a_getR (pc := 36) dX2_become_36 fX2_18_2 rfl (hx.s 32 rfl) (by decide) (hx.n (by decide)) (hx.r 32 2 35 rfl) ?_
  refine a_iconst (pc := 39) (v := 0) dX2_become_39 (by decide) ?_
  refine a_bipush (pc := 40) (v := 64) dX2_become_40 (by decide) ?_
  refine a_copyI (pc := 42) (N := 64) dX2_become_42 sX2_67 (hx.s 49 rfl) (by decide) (hx.n (by decide)) (hx.s 35 rfl) (by decide) (hx.n (by decide)) (by decide) (by decide) (by decide) rfl (by decide) (by decide) (fun i _ => rfl) (by decide) (Nat.le_of_ble_eq_true rfl) ?_
  refine a_aload_n (pc := 45) (i := 0) dX2_become_45 rfl rfl ?_
  refine a_aload_n (pc := 46) (i := 1) dX2_become_46 rfl rfl ?_
  refine a_getI (pc := 47) dX2_become_47 fX2_21_2 rfl (hx.s 46 rfl) (by decide) (hx.n (by decide)) ?_
  refine a_putI (pc := 50) dX2_become_50 fX2_21_2 (Or.inl rfl) rfl (hx.s 32 rfl) (by decide) (hx.n (by decide)) rfl rfl ?_
  refine a_aload_n (pc := 53) (i := 0) dX2_become_53 rfl rfl ?_
  refine a_aload_n (pc := 54) (i := 1) dX2_become_54 rfl rfl ?_
  refine a_getI (pc := 55) dX2_become_55 fX2_73_2 rfl (hx.s 46 rfl) (by decide) (hx.n (by decide)) ?_
  refine a_putI (pc := 58) dX2_become_58 fX2_73_2 (Or.inl rfl) rfl (hx.s 32 rfl) (by decide) (hx.n (by decide)) rfl rfl ?_
  refine a_aload_n (pc := 61) (i := 0) dX2_become_61 rfl rfl ?_
  refine a_aload_n (pc := 62) (i := 1) dX2_become_62 rfl rfl ?_
  refine a_getI (pc := 63) dX2_become_63 fX2_76_2 rfl (hx.s 46 rfl) (by decide) (hx.n (by decide)) ?_
  refine a_putI (pc := 66) dX2_become_66 fX2_76_2 (Or.inl rfl) rfl (hx.s 32 rfl) (by decide) (hx.n (by decide)) rfl rfl ?_
  refine a_aload_n (pc := 69) (i := 0) dX2_become_69 rfl rfl ?_
  refine a_aload_n (pc := 70) (i := 1) dX2_become_70 rfl rfl ?_
  refine a_getI (pc := 71) dX2_become_71 fX2_79_2 rfl (hx.s 46 rfl) (by decide) (hx.n (by decide)) ?_
  refine a_putI (pc := 74) dX2_become_74 fX2_79_2 (Or.inl rfl) rfl (hx.s 32 rfl) (by decide) (hx.n (by decide)) rfl rfl ?_
  refine a_aload_n (pc := 77) (i := 1) dX2_become_77 rfl rfl ?_
  refine a_getR (pc := 78) dX2_become_78 fX2_27_2 rfl (hx.s 46 rfl) (by decide) (hx.n (by decide)) (hx.r 46 7 50 rfl) ?_
  refine a_iconst (pc := 81) (v := 0) dX2_become_81 (by decide) ?_
  refine a_aload_n (pc := 82) (i := 0) dX2_become_82 rfl rfl ?_
  refine a_getR (pc := 83) dX2_become_83 fX2_27_2 rfl (hx.s 32 rfl) (by decide) (hx.n (by decide)) (hx.r 32 7 36 rfl) ?_
  refine a_iconst (pc := 86) (v := 0) dX2_become_86 (by decide) ?_
  refine a_bipush (pc := 87) (v := 6) dX2_become_87 (by decide) ?_
  refine a_copyR (pc := 89) (N := 6) dX2_become_89 sX2_67 (hx.s 50 rfl) (by decide) (hx.n (by decide)) (hx.s 36 rfl) (by decide) (hx.n (by decide)) (by decide) (by decide) (by decide) rfl (by decide) (by decide) (fun i hi y hy => el_p rd i hi y hy) (by decide) (Nat.le_of_ble_eq_true rfl) ?_
  have hx := hx
  refine a_aload_n (pc := 92) (i := 1) dX2_become_92 rfl rfl ?_
  refine a_getR (pc := 93) dX2_become_93 fX2_31_2 rfl (hx.s 46 rfl) (by decide) (hx.n (by decide)) (hx.r 46 8 51 rfl) ?_
  refine a_iconst (pc := 96) (v := 0) dX2_become_96 (by decide) ?_
  refine a_aload_n (pc := 97) (i := 0) dX2_become_97 rfl rfl ?_
  refine a_getR (pc := 98) dX2_become_98 fX2_31_2 rfl (hx.s 32 rfl) (by decide) (hx.n (by decide)) (hx.r 32 8 37 rfl) ?_
  refine a_iconst (pc := 101) (v := 0) dX2_become_101 (by decide) ?_
  refine a_bipush (pc := 102) (v := 6) dX2_become_102 (by decide) ?_
  refine a_copyI (pc := 104) (N := 6) dX2_become_104 sX2_67 (hx.s 51 rfl) (by decide) (hx.n (by decide)) (hx.s 37 rfl) (by decide) (hx.n (by decide)) (by decide) (by decide) (by decide) rfl (by decide) (by decide) (fun i _ => rfl) (by decide) (Nat.le_of_ble_eq_true rfl) ?_
  refine a_aload_n (pc := 107) (i := 1) dX2_become_107 rfl rfl ?_
  refine a_getR (pc := 108) dX2_become_108 fX2_34_2 rfl (hx.s 46 rfl) (by decide) (hx.n (by decide)) (hx.r 46 9 52 rfl) ?_
  refine a_iconst (pc := 111) (v := 0) dX2_become_111 (by decide) ?_
  refine a_aload_n (pc := 112) (i := 0) dX2_become_112 rfl rfl ?_
  refine a_getR (pc := 113) dX2_become_113 fX2_34_2 rfl (hx.s 32 rfl) (by decide) (hx.n (by decide)) (hx.r 32 9 38 rfl) ?_
  refine a_iconst (pc := 116) (v := 0) dX2_become_116 (by decide) ?_
  refine a_bipush (pc := 117) (v := 6) dX2_become_117 (by decide) ?_
  refine a_copyI (pc := 119) (N := 6) dX2_become_119 sX2_67 (hx.s 52 rfl) (by decide) (hx.n (by decide)) (hx.s 38 rfl) (by decide) (hx.n (by decide)) (by decide) (by decide) (by decide) rfl (by decide) (by decide) (fun i _ => rfl) (by decide) (Nat.le_of_ble_eq_true rfl) ?_
  refine a_aload_n (pc := 122) (i := 1) dX2_become_122 rfl rfl ?_
  refine a_getR (pc := 123) dX2_become_123 fX2_37_2 rfl (hx.s 46 rfl) (by decide) (hx.n (by decide)) (hx.r 46 10 53 rfl) ?_
  refine a_iconst (pc := 126) (v := 0) dX2_become_126 (by decide) ?_
  refine a_aload_n (pc := 127) (i := 0) dX2_become_127 rfl rfl ?_
  refine a_getR (pc := 128) dX2_become_128 fX2_37_2 rfl (hx.s 32 rfl) (by decide) (hx.n (by decide)) (hx.r 32 10 39 rfl) ?_
  refine a_iconst (pc := 131) (v := 0) dX2_become_131 (by decide) ?_
  refine a_bipush (pc := 132) (v := 6) dX2_become_132 (by decide) ?_
  refine a_copyI (pc := 134) (N := 6) dX2_become_134 sX2_67 (hx.s 53 rfl) (by decide) (hx.n (by decide)) (hx.s 39 rfl) (by decide) (hx.n (by decide)) (by decide) (by decide) (by decide) rfl (by decide) (by decide) (fun i _ => rfl) (by decide) (Nat.le_of_ble_eq_true rfl) ?_
  refine a_aload_n (pc := 137) (i := 1) dX2_become_137 rfl rfl ?_
  refine a_getR (pc := 138) dX2_become_138 fX2_40_2 rfl (hx.s 46 rfl) (by decide) (hx.n (by decide)) (hx.r 46 11 54 rfl) ?_
  refine a_iconst (pc := 141) (v := 0) dX2_become_141 (by decide) ?_
  refine a_aload_n (pc := 142) (i := 0) dX2_become_142 rfl rfl ?_
  refine a_getR (pc := 143) dX2_become_143 fX2_40_2 rfl (hx.s 32 rfl) (by decide) (hx.n (by decide)) (hx.r 32 11 40 rfl) ?_
  refine a_iconst (pc := 146) (v := 0) dX2_become_146 (by decide) ?_
  refine a_bipush (pc := 147) (v := 6) dX2_become_147 (by decide) ?_
  refine a_copyI (pc := 149) (N := 6) dX2_become_149 sX2_67 (hx.s 54 rfl) (by decide) (hx.n (by decide)) (hx.s 40 rfl) (by decide) (hx.n (by decide)) (by decide) (by decide) (by decide) rfl (by decide) (by decide) (fun i hi => by show fits .boolean (.int (gI h 54 i)) = true; rw [show gI h 54 i = _ from rd.iD i hi]; rcases wd i hi with e | e <;> rw [e] <;> rfl) (by decide) (Nat.le_of_ble_eq_true rfl) ?_
  refine a_aload_n (pc := 152) (i := 1) dX2_become_152 rfl rfl ?_
  refine a_getR (pc := 153) dX2_become_153 fX2_46_2 rfl (hx.s 46 rfl) (by decide) (hx.n (by decide)) (hx.r 46 12 55 rfl) ?_
  refine a_iconst (pc := 156) (v := 0) dX2_become_156 (by decide) ?_
  refine a_aload_n (pc := 157) (i := 0) dX2_become_157 rfl rfl ?_
  refine a_getR (pc := 158) dX2_become_158 fX2_46_2 rfl (hx.s 32 rfl) (by decide) (hx.n (by decide)) (hx.r 32 12 41 rfl) ?_
  refine a_iconst (pc := 161) (v := 0) dX2_become_161 (by decide) ?_
  refine a_iconst (pc := 162) (v := 2) dX2_become_162 (by decide) ?_
  refine a_copyR (pc := 163) (N := 2) dX2_become_163 sX2_67 (hx.s 55 rfl) (by decide) (hx.n (by decide)) (hx.s 41 rfl) (by decide) (hx.n (by decide)) (by decide) (by decide) (by decide) rfl (by decide) (by decide) (fun i hi y hy => el_t rd i hi y hy) (by decide) (Nat.le_of_ble_eq_true rfl) ?_
  refine a_aload_n (pc := 166) (i := 0) dX2_become_166 rfl rfl ?_
  refine a_aload_n (pc := 167) (i := 1) dX2_become_167 rfl rfl ?_
  refine a_getI (pc := 168) dX2_become_168 fX2_50_2 rfl (hx.s 46 rfl) (by decide) (hx.n (by decide)) ?_
  refine a_putI (pc := 171) dX2_become_171 fX2_50_2 (Or.inl rfl) rfl (hx.s 32 rfl) (by decide) (hx.n (by decide)) rfl rfl ?_
  refine a_aload_n (pc := 174) (i := 1) dX2_become_174 rfl rfl ?_
  refine a_getR (pc := 175) dX2_become_175 fX2_53_2 rfl (hx.s 46 rfl) (by decide) (hx.n (by decide)) (hx.r 46 14 56 rfl) ?_
  refine a_iconst (pc := 178) (v := 0) dX2_become_178 (by decide) ?_
  refine a_aload_n (pc := 179) (i := 0) dX2_become_179 rfl rfl ?_
  refine a_getR (pc := 180) dX2_become_180 fX2_53_2 rfl (hx.s 32 rfl) (by decide) (hx.n (by decide)) (hx.r 32 14 42 rfl) ?_
  refine a_iconst (pc := 183) (v := 0) dX2_become_183 (by decide) ?_
  refine a_bipush (pc := 184) (v := 50) dX2_become_184 (by decide) ?_
  refine a_copyI (pc := 186) (N := 50) dX2_become_186 sX2_67 (hx.s 56 rfl) (by decide) (hx.n (by decide)) (hx.s 42 rfl) (by decide) (hx.n (by decide)) (by decide) (by decide) (by decide) rfl (by decide) (by decide) (fun i hi => (rd.iP i hi).2) (by decide) (Nat.le_of_ble_eq_true rfl) ?_
  refine a_aload_n (pc := 189) (i := 0) dX2_become_189 rfl rfl ?_
  refine a_aload_n (pc := 190) (i := 1) dX2_become_190 rfl rfl ?_
  refine a_getI (pc := 191) dX2_become_191 fX2_82_2 rfl (hx.s 46 rfl) (by decide) (hx.n (by decide)) ?_
  refine a_putI (pc := 194) dX2_become_194 fX2_82_2 (Or.inl rfl) rfl (hx.s 32 rfl) (by decide) (hx.n (by decide)) rfl rfl ?_
  refine a_aload_n (pc := 197) (i := 1) dX2_become_197 rfl rfl ?_
  refine a_getR (pc := 198) dX2_become_198 fX2_57_2 rfl (hx.s 46 rfl) (by decide) (hx.n (by decide)) (hx.r 46 16 57 rfl) ?_
  refine a_iconst (pc := 201) (v := 0) dX2_become_201 (by decide) ?_
  refine a_aload_n (pc := 202) (i := 0) dX2_become_202 rfl rfl ?_
  refine a_getR (pc := 203) dX2_become_203 fX2_57_2 rfl (hx.s 32 rfl) (by decide) (hx.n (by decide)) (hx.r 32 16 43 rfl) ?_
  refine a_iconst (pc := 206) (v := 0) dX2_become_206 (by decide) ?_
  refine a_bipush (pc := 207) (v := 20) dX2_become_207 (by decide) ?_
  refine a_copyI (pc := 209) (N := 20) dX2_become_209 sX2_67 (hx.s 57 rfl) (by decide) (hx.n (by decide)) (hx.s 43 rfl) (by decide) (hx.n (by decide)) (by decide) (by decide) (by decide) rfl (by decide) (by decide) (fun i _ => rfl) (by decide) (Nat.le_of_ble_eq_true rfl) ?_
  refine a_aload_n (pc := 212) (i := 0) dX2_become_212 rfl rfl ?_
  refine a_aload_n (pc := 213) (i := 1) dX2_become_213 rfl rfl ?_
  refine a_getI (pc := 214) dX2_become_214 fX2_85_2 rfl (hx.s 46 rfl) (by decide) (hx.n (by decide)) ?_
  refine a_putI (pc := 217) dX2_become_217 fX2_85_2 (Or.inl rfl) rfl (hx.s 32 rfl) (by decide) (hx.n (by decide)) rfl rfl ?_
  refine a_aload_n (pc := 220) (i := 0) dX2_become_220 rfl rfl ?_
  exact a_aret (pc := 221) (r := some 32) rfl dX2_become_221 rfl rfl (eR_of (RD.copy (b := 32) (by decide) ⟨rfl, fun a ha k => by (have n (j : Nat) (hj : j ≤ 11) : ¬ a = 32 + j := by omega); have n0 := n 0 (by decide); have n1 := n 1 (by decide); have n2 := n 2 (by decide); have n3 := n 3 (by decide); have n5 := n 5 (by decide); have n6 := n 6 (by decide); have n7 := n 7 (by decide); have n8 := n 8 (by decide); have n10 := n 10 (by decide); have n11 := n 11 (by decide); simp only [Nat.reduceAdd] at n0 n1 n2 n3 n5 n6 n7 n8 n10 n11; simp only [gI_pI, gI_pC, gI_pCR, n0, n1, n2, n3, n5, n6, n7, n8, n10, n11, if_false], fun a n4 n9 k => by simp only [Nat.reduceAdd] at n4 n9; simp only [gR_pI, gR_pC, gR_pCR, n4, n9, if_false]⟩ rd (fun w hw => show (if w < 8 then gI h 47 w else gI h 33 w) = _ from if_pos hw) (fun w hw => show (if w < 64 then gI h 48 w else gI h 34 w) = _ from if_pos hw) (fun w hw => show (if w < 64 then gI h 49 w else gI h 35 w) = _ from if_pos hw) (fun w hw => by simp only [List.mem_cons, List.not_mem_nil, or_false] at hw; rcases hw with rfl | rfl | rfl | rfl | rfl | rfl | rfl <;> rfl) (fun w hw => show (if w < 6 then gI h 51 w else gI h 37 w) = _ from if_pos hw) (fun w hw => show (if w < 6 then gI h 52 w else gI h 38 w) = _ from if_pos hw) (fun w hw => show (if w < 6 then gI h 53 w else gI h 39 w) = _ from if_pos hw) (fun w hw => show (if w < 6 then gI h 54 w else gI h 40 w) = _ from if_pos hw) (fun w hw => show (if w < 50 then gI h 56 w else gI h 42 w) = _ from if_pos hw) (fun w hw => show (if w < 20 then gI h 57 w else gI h 43 w) = _ from if_pos hw) (fun w hw => show (if w < 6 then gR h 50 w else gR h 36 w) = _ from if_pos hw) (fun w hw => show (if w < 2 then gR h 55 w else gR h 41 w) = _ from if_pos hw) hm))
theorem c_become60 {g : Gl} {h : AH} (hx : Fx h) {D : De} (wd : ∀ p, p < 6 → D 9 p = 0 ∨ D 9 p = 1) (hm : tn (D 3 3) ≤ 6) (rd : RD h 32 D) : AM g 3 mX2_become [.ref 60, .ref 32] h (eR (fun r h2 => r = 60 ∧ RD h2 60 D ∧ Bc 60 h h2)) := by
  refine AM.of (by decide) (Nat.le_of_ble_eq_true rfl) ?_
  show AW g mX2_become 3 _ 0 [some (.ref 60), some (.ref 32)] [] h
  refine a_aload_n (pc := 0) (i := 1) dX2_become_0 rfl rfl ?_
  refine a_getR (pc := 1) dX2_become_1 fX2_9_2 rfl (hx.s 32 rfl) (by decide) (hx.n (by decide)) (hx.r 32 0 33 rfl) ?_
  refine a_iconst (pc := 4) (v := 0) dX2_become_4 (by decide) ?_
  refine a_aload_n (pc := 5) (i := 0) dX2_become_5 rfl rfl ?_
  refine a_getR (pc := 6) dX2_become_6 fX2_9_2 rfl (hx.s 60 rfl) (by decide) (hx.n (by decide)) (hx.r 60 0 61 rfl) ?_
  refine a_iconst (pc := 9) (v := 0) dX2_become_9 (by decide) ?_
  refine a_bipush (pc := 10) (v := 8) dX2_become_10 (by decide) ?_
  refine a_copyI (pc := 12) (N := 8) dX2_become_12 sX2_67 (hx.s 33 rfl) (by decide) (hx.n (by decide)) (hx.s 61 rfl) (by decide) (hx.n (by decide)) (by decide) (by decide) (by decide) rfl (by decide) (by decide) (fun i _ => rfl) (by decide) (Nat.le_of_ble_eq_true rfl) ?_
  refine a_aload_n (pc := 15) (i := 1) dX2_become_15 rfl rfl ?_
  refine a_getR (pc := 16) dX2_become_16 fX2_15_2 rfl (hx.s 32 rfl) (by decide) (hx.n (by decide)) (hx.r 32 1 34 rfl) ?_
  refine a_iconst (pc := 19) (v := 0) dX2_become_19 (by decide) ?_
  refine a_aload_n (pc := 20) (i := 0) dX2_become_20 rfl rfl ?_
  refine a_getR (pc := 21) dX2_become_21 fX2_15_2 rfl (hx.s 60 rfl) (by decide) (hx.n (by decide)) (hx.r 60 1 62 rfl) ?_
  refine a_iconst (pc := 24) (v := 0) dX2_become_24 (by decide) ?_
  refine a_bipush (pc := 25) (v := 64) dX2_become_25 (by decide) ?_
  refine a_copyI (pc := 27) (N := 64) dX2_become_27 sX2_67 (hx.s 34 rfl) (by decide) (hx.n (by decide)) (hx.s 62 rfl) (by decide) (hx.n (by decide)) (by decide) (by decide) (by decide) rfl (by decide) (by decide) (fun i _ => rfl) (by decide) (Nat.le_of_ble_eq_true rfl) ?_
  refine a_aload_n (pc := 30) (i := 1) dX2_become_30 rfl rfl ?_
  refine a_getR (pc := 31) dX2_become_31 fX2_18_2 rfl (hx.s 32 rfl) (by decide) (hx.n (by decide)) (hx.r 32 2 35 rfl) ?_
  refine a_iconst (pc := 34) (v := 0) dX2_become_34 (by decide) ?_
  refine a_aload_n (pc := 35) (i := 0) dX2_become_35 rfl rfl ?_
  refine a_getR (pc := 36) dX2_become_36 fX2_18_2 rfl (hx.s 60 rfl) (by decide) (hx.n (by decide)) (hx.r 60 2 63 rfl) ?_
  refine a_iconst (pc := 39) (v := 0) dX2_become_39 (by decide) ?_
  refine a_bipush (pc := 40) (v := 64) dX2_become_40 (by decide) ?_
  refine a_copyI (pc := 42) (N := 64) dX2_become_42 sX2_67 (hx.s 35 rfl) (by decide) (hx.n (by decide)) (hx.s 63 rfl) (by decide) (hx.n (by decide)) (by decide) (by decide) (by decide) rfl (by decide) (by decide) (fun i _ => rfl) (by decide) (Nat.le_of_ble_eq_true rfl) ?_
  refine a_aload_n (pc := 45) (i := 0) dX2_become_45 rfl rfl ?_
  refine a_aload_n (pc := 46) (i := 1) dX2_become_46 rfl rfl ?_
  refine a_getI (pc := 47) dX2_become_47 fX2_21_2 rfl (hx.s 32 rfl) (by decide) (hx.n (by decide)) ?_
  refine a_putI (pc := 50) dX2_become_50 fX2_21_2 (Or.inl rfl) rfl (hx.s 60 rfl) (by decide) (hx.n (by decide)) rfl rfl ?_
  refine a_aload_n (pc := 53) (i := 0) dX2_become_53 rfl rfl ?_
  refine a_aload_n (pc := 54) (i := 1) dX2_become_54 rfl rfl ?_
  refine a_getI (pc := 55) dX2_become_55 fX2_73_2 rfl (hx.s 32 rfl) (by decide) (hx.n (by decide)) ?_
  refine a_putI (pc := 58) dX2_become_58 fX2_73_2 (Or.inl rfl) rfl (hx.s 60 rfl) (by decide) (hx.n (by decide)) rfl rfl ?_
  refine a_aload_n (pc := 61) (i := 0) dX2_become_61 rfl rfl ?_
  refine a_aload_n (pc := 62) (i := 1) dX2_become_62 rfl rfl ?_
  refine a_getI (pc := 63) dX2_become_63 fX2_76_2 rfl (hx.s 32 rfl) (by decide) (hx.n (by decide)) ?_
  refine a_putI (pc := 66) dX2_become_66 fX2_76_2 (Or.inl rfl) rfl (hx.s 60 rfl) (by decide) (hx.n (by decide)) rfl rfl ?_
  refine a_aload_n (pc := 69) (i := 0) dX2_become_69 rfl rfl ?_
  refine a_aload_n (pc := 70) (i := 1) dX2_become_70 rfl rfl ?_
  refine a_getI (pc := 71) dX2_become_71 fX2_79_2 rfl (hx.s 32 rfl) (by decide) (hx.n (by decide)) ?_
  refine a_putI (pc := 74) dX2_become_74 fX2_79_2 (Or.inl rfl) rfl (hx.s 60 rfl) (by decide) (hx.n (by decide)) rfl rfl ?_
  refine a_aload_n (pc := 77) (i := 1) dX2_become_77 rfl rfl ?_
  refine a_getR (pc := 78) dX2_become_78 fX2_27_2 rfl (hx.s 32 rfl) (by decide) (hx.n (by decide)) (hx.r 32 7 36 rfl) ?_
  refine a_iconst (pc := 81) (v := 0) dX2_become_81 (by decide) ?_
  refine a_aload_n (pc := 82) (i := 0) dX2_become_82 rfl rfl ?_
  refine a_getR (pc := 83) dX2_become_83 fX2_27_2 rfl (hx.s 60 rfl) (by decide) (hx.n (by decide)) (hx.r 60 7 64 rfl) ?_
  refine a_iconst (pc := 86) (v := 0) dX2_become_86 (by decide) ?_
  refine a_bipush (pc := 87) (v := 6) dX2_become_87 (by decide) ?_
  refine a_copyR (pc := 89) (N := 6) dX2_become_89 sX2_67 (hx.s 36 rfl) (by decide) (hx.n (by decide)) (hx.s 64 rfl) (by decide) (hx.n (by decide)) (by decide) (by decide) (by decide) rfl (by decide) (by decide) (fun i hi y hy => el_p rd i hi y hy) (by decide) (Nat.le_of_ble_eq_true rfl) ?_
  have hx := hx
  refine a_aload_n (pc := 92) (i := 1) dX2_become_92 rfl rfl ?_
  refine a_getR (pc := 93) dX2_become_93 fX2_31_2 rfl (hx.s 32 rfl) (by decide) (hx.n (by decide)) (hx.r 32 8 37 rfl) ?_
  refine a_iconst (pc := 96) (v := 0) dX2_become_96 (by decide) ?_
  refine a_aload_n (pc := 97) (i := 0) dX2_become_97 rfl rfl ?_
  refine a_getR (pc := 98) dX2_become_98 fX2_31_2 rfl (hx.s 60 rfl) (by decide) (hx.n (by decide)) (hx.r 60 8 65 rfl) ?_
  refine a_iconst (pc := 101) (v := 0) dX2_become_101 (by decide) ?_
  refine a_bipush (pc := 102) (v := 6) dX2_become_102 (by decide) ?_
  refine a_copyI (pc := 104) (N := 6) dX2_become_104 sX2_67 (hx.s 37 rfl) (by decide) (hx.n (by decide)) (hx.s 65 rfl) (by decide) (hx.n (by decide)) (by decide) (by decide) (by decide) rfl (by decide) (by decide) (fun i _ => rfl) (by decide) (Nat.le_of_ble_eq_true rfl) ?_
  refine a_aload_n (pc := 107) (i := 1) dX2_become_107 rfl rfl ?_
  refine a_getR (pc := 108) dX2_become_108 fX2_34_2 rfl (hx.s 32 rfl) (by decide) (hx.n (by decide)) (hx.r 32 9 38 rfl) ?_
  refine a_iconst (pc := 111) (v := 0) dX2_become_111 (by decide) ?_
  refine a_aload_n (pc := 112) (i := 0) dX2_become_112 rfl rfl ?_
  refine a_getR (pc := 113) dX2_become_113 fX2_34_2 rfl (hx.s 60 rfl) (by decide) (hx.n (by decide)) (hx.r 60 9 66 rfl) ?_
  refine a_iconst (pc := 116) (v := 0) dX2_become_116 (by decide) ?_
  refine a_bipush (pc := 117) (v := 6) dX2_become_117 (by decide) ?_
  refine a_copyI (pc := 119) (N := 6) dX2_become_119 sX2_67 (hx.s 38 rfl) (by decide) (hx.n (by decide)) (hx.s 66 rfl) (by decide) (hx.n (by decide)) (by decide) (by decide) (by decide) rfl (by decide) (by decide) (fun i _ => rfl) (by decide) (Nat.le_of_ble_eq_true rfl) ?_
  refine a_aload_n (pc := 122) (i := 1) dX2_become_122 rfl rfl ?_
  refine a_getR (pc := 123) dX2_become_123 fX2_37_2 rfl (hx.s 32 rfl) (by decide) (hx.n (by decide)) (hx.r 32 10 39 rfl) ?_
  refine a_iconst (pc := 126) (v := 0) dX2_become_126 (by decide) ?_
  refine a_aload_n (pc := 127) (i := 0) dX2_become_127 rfl rfl ?_
  refine a_getR (pc := 128) dX2_become_128 fX2_37_2 rfl (hx.s 60 rfl) (by decide) (hx.n (by decide)) (hx.r 60 10 67 rfl) ?_
  refine a_iconst (pc := 131) (v := 0) dX2_become_131 (by decide) ?_
  refine a_bipush (pc := 132) (v := 6) dX2_become_132 (by decide) ?_
  refine a_copyI (pc := 134) (N := 6) dX2_become_134 sX2_67 (hx.s 39 rfl) (by decide) (hx.n (by decide)) (hx.s 67 rfl) (by decide) (hx.n (by decide)) (by decide) (by decide) (by decide) rfl (by decide) (by decide) (fun i _ => rfl) (by decide) (Nat.le_of_ble_eq_true rfl) ?_
  refine a_aload_n (pc := 137) (i := 1) dX2_become_137 rfl rfl ?_
  refine a_getR (pc := 138) dX2_become_138 fX2_40_2 rfl (hx.s 32 rfl) (by decide) (hx.n (by decide)) (hx.r 32 11 40 rfl) ?_
  refine a_iconst (pc := 141) (v := 0) dX2_become_141 (by decide) ?_
  refine a_aload_n (pc := 142) (i := 0) dX2_become_142 rfl rfl ?_
  refine a_getR (pc := 143) dX2_become_143 fX2_40_2 rfl (hx.s 60 rfl) (by decide) (hx.n (by decide)) (hx.r 60 11 68 rfl) ?_
  refine a_iconst (pc := 146) (v := 0) dX2_become_146 (by decide) ?_
  refine a_bipush (pc := 147) (v := 6) dX2_become_147 (by decide) ?_
  refine a_copyI (pc := 149) (N := 6) dX2_become_149 sX2_67 (hx.s 40 rfl) (by decide) (hx.n (by decide)) (hx.s 68 rfl) (by decide) (hx.n (by decide)) (by decide) (by decide) (by decide) rfl (by decide) (by decide) (fun i hi => by show fits .boolean (.int (gI h 40 i)) = true; rw [show gI h 40 i = _ from rd.iD i hi]; rcases wd i hi with e | e <;> rw [e] <;> rfl) (by decide) (Nat.le_of_ble_eq_true rfl) ?_
  refine a_aload_n (pc := 152) (i := 1) dX2_become_152 rfl rfl ?_
  refine a_getR (pc := 153) dX2_become_153 fX2_46_2 rfl (hx.s 32 rfl) (by decide) (hx.n (by decide)) (hx.r 32 12 41 rfl) ?_
  refine a_iconst (pc := 156) (v := 0) dX2_become_156 (by decide) ?_
  refine a_aload_n (pc := 157) (i := 0) dX2_become_157 rfl rfl ?_
  refine a_getR (pc := 158) dX2_become_158 fX2_46_2 rfl (hx.s 60 rfl) (by decide) (hx.n (by decide)) (hx.r 60 12 69 rfl) ?_
  refine a_iconst (pc := 161) (v := 0) dX2_become_161 (by decide) ?_
  refine a_iconst (pc := 162) (v := 2) dX2_become_162 (by decide) ?_
  refine a_copyR (pc := 163) (N := 2) dX2_become_163 sX2_67 (hx.s 41 rfl) (by decide) (hx.n (by decide)) (hx.s 69 rfl) (by decide) (hx.n (by decide)) (by decide) (by decide) (by decide) rfl (by decide) (by decide) (fun i hi y hy => el_t rd i hi y hy) (by decide) (Nat.le_of_ble_eq_true rfl) ?_
  refine a_aload_n (pc := 166) (i := 0) dX2_become_166 rfl rfl ?_
  refine a_aload_n (pc := 167) (i := 1) dX2_become_167 rfl rfl ?_
  refine a_getI (pc := 168) dX2_become_168 fX2_50_2 rfl (hx.s 32 rfl) (by decide) (hx.n (by decide)) ?_
  refine a_putI (pc := 171) dX2_become_171 fX2_50_2 (Or.inl rfl) rfl (hx.s 60 rfl) (by decide) (hx.n (by decide)) rfl rfl ?_
  refine a_aload_n (pc := 174) (i := 1) dX2_become_174 rfl rfl ?_
  refine a_getR (pc := 175) dX2_become_175 fX2_53_2 rfl (hx.s 32 rfl) (by decide) (hx.n (by decide)) (hx.r 32 14 42 rfl) ?_
  refine a_iconst (pc := 178) (v := 0) dX2_become_178 (by decide) ?_
  refine a_aload_n (pc := 179) (i := 0) dX2_become_179 rfl rfl ?_
  refine a_getR (pc := 180) dX2_become_180 fX2_53_2 rfl (hx.s 60 rfl) (by decide) (hx.n (by decide)) (hx.r 60 14 70 rfl) ?_
  refine a_iconst (pc := 183) (v := 0) dX2_become_183 (by decide) ?_
  refine a_bipush (pc := 184) (v := 50) dX2_become_184 (by decide) ?_
  refine a_copyI (pc := 186) (N := 50) dX2_become_186 sX2_67 (hx.s 42 rfl) (by decide) (hx.n (by decide)) (hx.s 70 rfl) (by decide) (hx.n (by decide)) (by decide) (by decide) (by decide) rfl (by decide) (by decide) (fun i hi => (rd.iP i hi).2) (by decide) (Nat.le_of_ble_eq_true rfl) ?_
  refine a_aload_n (pc := 189) (i := 0) dX2_become_189 rfl rfl ?_
  refine a_aload_n (pc := 190) (i := 1) dX2_become_190 rfl rfl ?_
  refine a_getI (pc := 191) dX2_become_191 fX2_82_2 rfl (hx.s 32 rfl) (by decide) (hx.n (by decide)) ?_
  refine a_putI (pc := 194) dX2_become_194 fX2_82_2 (Or.inl rfl) rfl (hx.s 60 rfl) (by decide) (hx.n (by decide)) rfl rfl ?_
  refine a_aload_n (pc := 197) (i := 1) dX2_become_197 rfl rfl ?_
  refine a_getR (pc := 198) dX2_become_198 fX2_57_2 rfl (hx.s 32 rfl) (by decide) (hx.n (by decide)) (hx.r 32 16 43 rfl) ?_
  refine a_iconst (pc := 201) (v := 0) dX2_become_201 (by decide) ?_
  refine a_aload_n (pc := 202) (i := 0) dX2_become_202 rfl rfl ?_
  refine a_getR (pc := 203) dX2_become_203 fX2_57_2 rfl (hx.s 60 rfl) (by decide) (hx.n (by decide)) (hx.r 60 16 71 rfl) ?_
  refine a_iconst (pc := 206) (v := 0) dX2_become_206 (by decide) ?_
  refine a_bipush (pc := 207) (v := 20) dX2_become_207 (by decide) ?_
  refine a_copyI (pc := 209) (N := 20) dX2_become_209 sX2_67 (hx.s 43 rfl) (by decide) (hx.n (by decide)) (hx.s 71 rfl) (by decide) (hx.n (by decide)) (by decide) (by decide) (by decide) rfl (by decide) (by decide) (fun i _ => rfl) (by decide) (Nat.le_of_ble_eq_true rfl) ?_
  refine a_aload_n (pc := 212) (i := 0) dX2_become_212 rfl rfl ?_
  refine a_aload_n (pc := 213) (i := 1) dX2_become_213 rfl rfl ?_
  refine a_getI (pc := 214) dX2_become_214 fX2_85_2 rfl (hx.s 32 rfl) (by decide) (hx.n (by decide)) ?_
  refine a_putI (pc := 217) dX2_become_217 fX2_85_2 (Or.inl rfl) rfl (hx.s 60 rfl) (by decide) (hx.n (by decide)) rfl rfl ?_
  refine a_aload_n (pc := 220) (i := 0) dX2_become_220 rfl rfl ?_
  exact a_aret (pc := 221) (r := some 60) rfl dX2_become_221 rfl rfl (eR_of (RD.copy (b := 60) (by decide) ⟨rfl, fun a ha k => by (have n (j : Nat) (hj : j ≤ 11) : ¬ a = 60 + j := by omega); have n0 := n 0 (by decide); have n1 := n 1 (by decide); have n2 := n 2 (by decide); have n3 := n 3 (by decide); have n5 := n 5 (by decide); have n6 := n 6 (by decide); have n7 := n 7 (by decide); have n8 := n 8 (by decide); have n10 := n 10 (by decide); have n11 := n 11 (by decide); simp only [Nat.reduceAdd] at n0 n1 n2 n3 n5 n6 n7 n8 n10 n11; simp only [gI_pI, gI_pC, gI_pCR, n0, n1, n2, n3, n5, n6, n7, n8, n10, n11, if_false], fun a n4 n9 k => by simp only [Nat.reduceAdd] at n4 n9; simp only [gR_pI, gR_pC, gR_pCR, n4, n9, if_false]⟩ rd (fun w hw => show (if w < 8 then gI h 33 w else gI h 61 w) = _ from if_pos hw) (fun w hw => show (if w < 64 then gI h 34 w else gI h 62 w) = _ from if_pos hw) (fun w hw => show (if w < 64 then gI h 35 w else gI h 63 w) = _ from if_pos hw) (fun w hw => by simp only [List.mem_cons, List.not_mem_nil, or_false] at hw; rcases hw with rfl | rfl | rfl | rfl | rfl | rfl | rfl <;> rfl) (fun w hw => show (if w < 6 then gI h 37 w else gI h 65 w) = _ from if_pos hw) (fun w hw => show (if w < 6 then gI h 38 w else gI h 66 w) = _ from if_pos hw) (fun w hw => show (if w < 6 then gI h 39 w else gI h 67 w) = _ from if_pos hw) (fun w hw => show (if w < 6 then gI h 40 w else gI h 68 w) = _ from if_pos hw) (fun w hw => show (if w < 50 then gI h 42 w else gI h 70 w) = _ from if_pos hw) (fun w hw => show (if w < 20 then gI h 43 w else gI h 71 w) = _ from if_pos hw) (fun w hw => show (if w < 6 then gR h 36 w else gR h 64 w) = _ from if_pos hw) (fun w hw => show (if w < 2 then gR h 41 w else gR h 69 w) = _ from if_pos hw) hm))
