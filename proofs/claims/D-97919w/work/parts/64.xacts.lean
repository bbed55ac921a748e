/-! ===== acts of WellNames by relation (printed by gen/p64.py) ===== -/
theorem PX.of {S : List Nat} {h h1 h2 : AH} {σ : Sg} (p : Sm S h h1) (q : PX h1 h2 σ) (hs : ∀ a, a ∈ S → a < 84 := by decide) : PX h h2 σ := by
  obtain ⟨q1, q2, q3, q4, q5, q6⟩ := q
  refine ⟨q1, q2, fun a h3 h4 k => (q3 a h3 h4 k).trans (p.2 a (fun z => absurd (hs a z) (by omega)) k), ?_, ?_, ?_⟩
  · rw [← p.gN]; exact q4
  · rw [← p.gN]; exact q5
  · rw [← p.gZ]; exact q6
theorem isP_ex {D : De} {p : Int32} (hm : upto 6 (D 3 3)) (h : 0 ≤ p ∧ p ≤ D 3 3 - 1) : ∃ j : Nat, j < tn (D 3 3) ∧ j < 6 ∧ p = nI j := by
  obtain ⟨n, hn, e⟩ := hm
  obtain ⟨j, hj, rfl⟩ := nI_lt1 (N := n) ⟨n, Nat.le_refl _, e⟩ h (by omega)
  exact ⟨j, by rw [e, tn_nI (by omega)]; exact hj, by omega, rfl⟩
theorem isP_of {D : De} {j : Nat} (hm : upto 6 (D 3 3)) (hj : j < tn (D 3 3)) : 0 ≤ nI j ∧ nI j ≤ D 3 3 - 1 := by
  obtain ⟨n, hn, e⟩ := hm
  rw [e, tn_nI (by omega)] at hj
  obtain ⟨m, rfl⟩ : ∃ m, n = m + 1 := ⟨n - 1, by omega⟩
  rw [e, nI_pred]
  exact ⟨nI_pos' (by omega), nI_le (by omega) (by omega)⟩
def roadsD (D : De) (i : Nat) : Int32 := itN (fun w n => n + bI (0 < D 1 (8 * i + w))) 8 0
def thoseK (D : De) (a : Nat) (v : Int32) (k : Nat) : Int32 := itN (fun p s => s ||| (if D 9 p = 0 ∧ D a p = v then 1 <<< (nI p &&& 31) else 0)) k 0
def thoseD (D : De) (a : Nat) (v : Int32) : Int32 := thoseK D a v (tn (D 3 3))
def aOfWell (σ : Sg) (w what : Int32) : Int32 × Sg := if (0 ≤ w ∧ w ≤ 7) ∧ 0 ≤ what ∧ what ≤ 4 then (if what = 0 then σ.1 0 (tn w) else if what = 1 then roadsD σ.1 (tn w) else if what = 2 then thoseD σ.1 7 w else if what = 3 then thoseD σ.1 6 w else owesD σ.1 w, σ) else aErr σ 1
def aOfPerson (σ : Sg) (p what : Int32) : Int32 × Sg := if (0 ≤ p ∧ p ≤ σ.1 3 3 - 1) ∧ 0 ≤ what ∧ what ≤ 8 then (if what ≤ 5 then σ.1 (4 + tn what) (tn p) else if what = 6 then limOf (σ.1 4 (tn p)) (σ.1 5 (tn p)) else if what = 7 then needsOf σ.1 (σ.1 4 (tn p)) (σ.1 5 (tn p)) (σ.1 8 (tn p)) else owesD σ.1 (σ.1 7 (tn p)), σ) else aErr σ 1
def aAs (σ : Sg) (p k : Int32) : Int32 × Sg := if (0 ≤ p ∧ p ≤ σ.1 3 3 - 1) ∧ 0 ≤ k ∧ k ≤ 6 then (if k = 0 ∨ σ.1 4 (tn p) = k ∨ (3 < σ.1 4 (tn p) ∧ σ.1 4 (tn p) - 3 = k) then (σ.1 5 (tn p), σ) else aErr σ 5) else aErr σ 1
def aLaw (σ : Sg) (u a b c : Int32) : Int32 × Sg := if 0 ≤ u ∧ u ≤ 1 then (if u = 0 then needed σ.1 a b c else parch σ.1 a b c, σ) else aErr σ 1
def aDrink (σ : Sg) (p : Int32) : Int32 × Sg := if 0 ≤ p ∧ p ≤ σ.1 3 3 - 1 then (if σ.1 9 (tn p) = 0 ∧ needsOf σ.1 (σ.1 4 (tn p)) (σ.1 5 (tn p)) (σ.1 8 (tn p)) ≤ σ.1 0 (tn (σ.1 6 (tn p))) then (driD σ.1 (tn p) 7 (tn p), oD σ (driD σ.1 (tn p))) else aErr σ 3) else aErr σ 1
def aGo (σ : Sg) (p w : Int32) : Int32 × Sg := if (0 ≤ p ∧ p ≤ σ.1 3 3 - 1) ∧ (0 ≤ w ∧ w ≤ 7) ∧ w ≠ σ.1 6 (tn p) then (if σ.1 9 (tn p) = 0 ∧ 0 < lenD σ.1 (tn p) (tn w) ∧ σ.1 3 1 + lenD σ.1 (tn p) (tn w) ≤ 99999 then (goeD σ.1 (tn p) (tn w) 8 (tn p), oD σ (goeD σ.1 (tn p) (tn w))) else aErr σ 3) else aErr σ 1
def aPay (σ : Sg) (p w v : Int32) : Int32 × Sg := if (0 ≤ p ∧ p ≤ σ.1 3 3 - 1) ∧ (0 ≤ w ∧ w ≤ 7) ∧ σ.1 7 (tn p) ≠ w ∧ 1 ≤ v ∧ v ≤ 9999 then (if σ.1 9 (tn p) = 0 ∧ σ.1 7 (tn p) ≠ -1 ∧ v ≤ σ.1 2 (8 * tn (σ.1 7 (tn p)) + tn w) then (σ.1 2 (8 * tn (σ.1 7 (tn p)) + tn w) - v, oD σ (up2 σ.1 2 (8 * tn (σ.1 7 (tn p)) + tn w) (σ.1 2 (8 * tn (σ.1 7 (tn p)) + tn w) - v))) else aErr σ 3) else aErr σ 1
def okGo (D : De) (n : Int32) : Prop := D 3 2 + n ≤ 9999 ∧ D 3 1 + n ≤ 99999
def aDays (σ : Sg) (n : Int32) : Int32 × Sg := if 1 ≤ n ∧ n ≤ 60 then (if σ.1 3 2 + n ≤ 9999 ∧ σ.1 3 1 + n ≤ 99999 then (deadD (itN (fun _ D => dayD D) (tn n) σ.1), oD σ (itN (fun _ D => dayD D) (tn n) σ.1)) else aErr σ 3) else aErr σ 1
def aLoose (σ : Sg) (n : Int32) : Int32 × Sg := if 1 ≤ n ∧ n ≤ 40 then (if σ.1 3 2 + n ≤ 9999 ∧ σ.1 3 1 + n ≤ 99999 then (deadD (itN (fun _ D => looD D) (tn n) σ.1), oD σ (itN (fun _ D => looD D) (tn n) σ.1)) else aErr σ 3) else aErr σ 1
theorem c_isPerson {g : Gl} {h : AH} (hx : Fx h) {D : De} (rd : RD h 32 D) (p : Int32) : AM g 2 mX0_isPerson [.ref 30, .int p] h (rI (bI (0 ≤ p ∧ p ≤ D 3 3 - 1)) h) := by
  refine AM.of (by decide) (Nat.le_of_ble_eq_true rfl) ?_
  show AW g mX0_isPerson 2 _ 0 [some (.ref 30), some (.int p)] [] h
  refine a_iload_n (pc := 0) (i := 1) dX0_isPerson_0 rfl rfl ?_
  refine a_iconst (pc := 1) (v := 0) dX0_isPerson_1 (by decide) ?_
  refine a_aload_n (pc := 2) (i := 0) dX0_isPerson_2 rfl rfl ?_
  refine a_getR (pc := 3) dX0_isPerson_3 fX0_46_0 rfl (hx.s 30 rfl) (by decide) (hx.n (by decide)) (hx.r 30 1 32 rfl) ?_
  refine a_getI (pc := 6) dX0_isPerson_6 fX0_93_2 rfl (hx.s 32 rfl) (by decide) (hx.n (by decide)) ?_
  refine a_iconst (pc := 9) (v := 1) dX0_isPerson_9 (by decide) ?_
  refine a_isub (pc := 10) dX0_isPerson_10 ?_
  refine a_cSi (pc := 11) (c_in _ _ _) sX0_85 dX0_isPerson_11 rfl rfl (by decide) (Nat.le_of_ble_eq_true rfl) ?_
  exact a_zret (pc := 14) dX0_isPerson_14 rfl nar_bI (rI_of (by rw [← rd.iMany]) rfl)
theorem c_personAt1 {g : Gl} {h : AH} (hx : Fx h) {D : De} (rd : RD h 32 D) (j : Nat) (hj6 : j < 6) (hI : 0 ≤ nI j ∧ nI j ≤ D 3 3 - 1) {r : Nat} (er : gR h 36 j = some r) : AM g 3 mX0_personAt [.ref 30, .int (nI j), .int 1] h (rR (some r) h) := by
  refine AM.of (by decide) (Nat.le_of_ble_eq_true rfl) ?_
  show AW g mX0_personAt 3 _ 0 [some (.ref 30), some (.int (nI j)), some (.int 1)] [] h
  refine a_aload_n (pc := 0) (i := 0) dX0_personAt_0 rfl rfl ?_
  refine a_aload_n (pc := 1) (i := 0) dX0_personAt_1 rfl rfl ?_
  refine a_iload_n (pc := 2) (i := 1) dX0_personAt_2 rfl rfl ?_
  refine a_cVi (pc := 3) (c_isPerson hx rd _) sX0_158_0 dX0_personAt_3 (recv_obj (t := 0) rfl (hx.s 30 rfl) (by decide) (hx.n (by decide))) rfl rfl (by decide) (Nat.le_of_ble_eq_true rfl) ?_
  refine a_if_eq (pc := 6) (tgt := 17) dX0_personAt_6 (by decide) (fun c6 => absurd c6 (bI_n.mpr hI)) (fun _ => ?_)
  refine a_iload_n (pc := 9) (i := 2) dX0_personAt_9 rfl rfl ?_
  refine a_if_eq (pc := 10) (tgt := 17) dX0_personAt_10 (by decide) (fun c10 => absurd c10 (by decide)) (fun _ => ?_)
  refine a_iconst (pc := 13) (v := 1) dX0_personAt_13 (by decide) ?_
  refine a_goto (pc := 14) (tgt := 18) dX0_personAt_14 (by decide) ?_
  refine a_iconst (pc := 18) (v := 1) dX0_personAt_18 (by decide) ?_
  refine a_cVv (pc := 19) (c_need1 hx _) sX0_100_0 dX0_personAt_19 (recv_obj (t := 0) rfl (hx.s 30 rfl) (by decide) (hx.n (by decide))) rfl rfl (by decide) (Nat.le_of_ble_eq_true rfl) ?_
  refine a_aload_n (pc := 22) (i := 0) dX0_personAt_22 rfl rfl ?_
  refine a_getR (pc := 23) dX0_personAt_23 fX0_46_0 rfl (hx.s 30 rfl) (by decide) (hx.n (by decide)) (hx.r 30 1 32 rfl) ?_
  refine a_getR (pc := 26) dX0_personAt_26 fX0_147_2 rfl (hx.s 32 rfl) (by decide) (hx.n (by decide)) (hx.r 32 7 36 rfl) ?_
  refine a_iload_n (pc := 29) (i := 1) dX0_personAt_29 rfl rfl ?_
  refine a_aaldN (pc := 30) (v := .ref (r)) dX0_personAt_30 (hx.s 36 rfl) (by decide) (hx.n (by decide)) (by decide) (by decide) (k := j) rfl ⟨hj6, by decide⟩ (by rw [er]; rfl) ?_
  exact a_aret (pc := 31) (r := some (r)) rfl dX0_personAt_31 rfl rfl (rR_of rfl rfl)
theorem c_personAt0 {g : Gl} {h : AH} (hx : Fx h) {D : De} (rd : RD h 32 D) (p o : Int32) (hN : ¬ ((0 ≤ p ∧ p ≤ D 3 3 - 1) ∧ o = 1))  (ho : o = 0 ∨ o = 1 := by decide) : AM g 3 mX0_personAt [.ref 30, .int p, .int o] h (rT 31 (pI h 31 6 1)) := by
  refine AM.of (by decide) (Nat.le_of_ble_eq_true rfl) ?_
  show AW g mX0_personAt 3 _ 0 [some (.ref 30), some (.int p), some (.int o)] [] h
  refine a_aload_n (pc := 0) (i := 0) dX0_personAt_0 rfl rfl ?_
  refine a_aload_n (pc := 1) (i := 0) dX0_personAt_1 rfl rfl ?_
  refine a_iload_n (pc := 2) (i := 1) dX0_personAt_2 rfl rfl ?_
  refine a_cVi (pc := 3) (c_isPerson hx rd _) sX0_158_0 dX0_personAt_3 (recv_obj (t := 0) rfl (hx.s 30 rfl) (by decide) (hx.n (by decide))) rfl rfl (by decide) (Nat.le_of_ble_eq_true rfl) ?_
  refine a_if_eq (pc := 6) (tgt := 17) dX0_personAt_6 (by decide) (fun c6 => ?_) (fun c6 => ?_)
  · skip
    refine a_iconst (pc := 17) (v := 0) dX0_personAt_17 (by decide) ?_
    refine a_iconst (pc := 18) (v := 1) dX0_personAt_18 (by decide) ?_
    refine a_cVt (pc := 19) (c_need0 hx _) sX0_100_0 dX0_personAt_19 (recv_obj (t := 0) rfl (hx.s 30 rfl) (by decide) (hx.n (by decide))) rfl rfl (by decide) (Nat.le_of_ble_eq_true rfl) ?_
    exact a_leave rfl (rT_of rfl rfl)
  · skip
    refine a_iload_n (pc := 9) (i := 2) dX0_personAt_9 rfl rfl ?_
    refine a_if_eq (pc := 10) (tgt := 17) dX0_personAt_10 (by decide) (fun c10 => ?_) (fun c10 => ?_)
    · skip
      refine a_iconst (pc := 17) (v := 0) dX0_personAt_17 (by decide) ?_
      refine a_iconst (pc := 18) (v := 1) dX0_personAt_18 (by decide) ?_
      refine a_cVt (pc := 19) (c_need0 hx _) sX0_100_0 dX0_personAt_19 (recv_obj (t := 0) rfl (hx.s 30 rfl) (by decide) (hx.n (by decide))) rfl rfl (by decide) (Nat.le_of_ble_eq_true rfl) ?_
      exact a_leave rfl (rT_of rfl rfl)
    · skip
      exact absurd ⟨bI_n.mp c6, by grind⟩ hN
theorem x_as {g : Gl} {h : AH} {n : Nat} {σ : Sg} (hx : Fx h) (wf : Wf n σ) (rx : RX h σ) (p k : Int32) : AM g 150 mX0_as [.ref 30, .int p, .int k] h (eI (aAs σ p k).1 (fun h2 => PX h h2 (aAs σ p k).2)) := by
  refine AM.of (by decide) (Nat.le_of_ble_eq_true rfl) ?_
  show AW g mX0_as 150 _ 0 [some (.ref 30), some (.int p), some (.int k)] [] h
  have sm : Sm [31, 45, 76] h h := Sm.rf h
  refine a_aload_n (pc := 0) (i := 0) dX0_as_0 rfl rfl ?_
  refine a_iload_n (pc := 1) (i := 1) dX0_as_1 rfl rfl ?_
  refine a_iload_n (pc := 2) (i := 2) dX0_as_2 rfl rfl ?_
  refine a_iconst (pc := 3) (v := 0) dX0_as_3 (by decide) ?_
  refine a_bipush (pc := 4) (v := 6) dX0_as_4 (by decide) ?_
  refine a_cSi (pc := 6) (c_in _ _ _) sX0_85 dX0_as_6 rfl rfl (by decide) (Nat.le_of_ble_eq_true rfl) ?_
  refine a_bs0 (fun hO => ?_) (fun hO => ?_)
  · skip
    by_cases hI : 0 ≤ p ∧ p ≤ σ.1 3 3 - 1
    · skip
      obtain ⟨j, hj, hj6, rfl⟩ := isP_ex wf.1.wMany hI
      have tj : tn (nI j) = j := tn_nI (by omega)
      obtain ⟨r, er, pr⟩ := rx.1.iU.1 j hj
      refine a_cVr (pc := 9) (c_personAt1 (by exact hx) rx.1 j hj6 hI er) sX0_161_0 dX0_as_9 (recv_obj (t := 0) rfl (hx.s 30 rfl) (by decide) (hx.n (by decide))) rfl rfl (by decide) (Nat.le_of_ble_eq_true rfl) ?_
      refine a_astore_n (pc := 12) (i := 3) dX0_as_12 rfl (by decide) rfl ?_
      refine a_aload_n (pc := 13) (i := 0) dX0_as_13 rfl rfl ?_
      refine a_aload_n (pc := 14) (i := 3) dX0_as_14 rfl rfl ?_
      refine a_iload_n (pc := 15) (i := 2) dX0_as_15 rfl rfl ?_
      refine d_isOf_X0 (pc := 16) k pr rfl dX0_as_16 (by decide) (Nat.le_of_ble_eq_true rfl) ?_
      refine a_iconst (pc := 19) (v := 5) dX0_as_19 (by decide) ?_
      refine a_bs1 (fun hP20 => ?_) (fun hP20 => ?_)
      · skip
        refine a_cVv (pc := 20) (c_need1 (by exact hx) _) sX0_100_0 dX0_as_20 (recv_obj (t := 0) rfl (hx.s 30 rfl) (by decide) (hx.n (by decide))) rfl rfl (by decide) (Nat.le_of_ble_eq_true rfl) ?_
        refine a_aload_n (pc := 23) (i := 3) dX0_as_23 rfl rfl ?_
        refine d_m_X0 (pc := 24) pr rfl dX0_as_24 ?_
        exact a_iret (pc := 27) dX0_as_27 rfl (by rw [show aAs σ (nI j) k = (σ.1 5 j, σ) by grind [aAs, bI]]; exact eI_of rfl (PX.of sm (PX.sm (S := []) hx (Sm.rf _) rx)))
      · skip
        refine a_cVt (pc := 20) (c_need0 (by exact hx) _) sX0_100_0 dX0_as_20 (recv_obj (t := 0) rfl (hx.s 30 rfl) (by decide) (hx.n (by decide))) rfl rfl (by decide) (Nat.le_of_ble_eq_true rfl) ?_
        refine a_catch1 (t := 1) rfl (by decide) (by decide) (by decide) rfl q124 (hx.s 31 rfl) (by decide) (hx.n (by decide)) ?_
        refine a_astore_n (pc := 28) (i := 3) dX0_as_28 rfl (by decide) rfl ?_
        refine a_aload_n (pc := 29) (i := 0) dX0_as_29 rfl rfl ?_
        refine a_aload_n (pc := 30) (i := 3) dX0_as_30 rfl rfl ?_
        refine a_cVi (pc := 31) (c_finds (by exact hx) 5 (by decide)) sX0_109_0 dX0_as_31 (recv_obj (t := 0) rfl (hx.s 30 rfl) (by decide) (hx.n (by decide))) rfl rfl (by decide) (Nat.le_of_ble_eq_true rfl) ?_
        exact a_iret (pc := 34) dX0_as_34 rfl (by (first | rw [show aAs σ p k = aErr σ 5 by grind [aAs, bI]] | rw [show aAs σ (nI j) k = aErr σ 5 by grind [aAs, bI]]); exact eI_of rfl (PX.of sm (PX.err (by decide) hx rx)))
    · skip
      refine a_cVt (pc := 9) (c_personAt0 (by exact hx) rx.1 _ _ (fun z => hI z.1)) sX0_161_0 dX0_as_9 (recv_obj (t := 0) rfl (hx.s 30 rfl) (by decide) (hx.n (by decide))) rfl rfl (by decide) (Nat.le_of_ble_eq_true rfl) ?_
      refine a_catch1 (t := 1) rfl (by decide) (by decide) (by decide) rfl q124 (hx.s 31 rfl) (by decide) (hx.n (by decide)) ?_
      refine a_astore_n (pc := 28) (i := 3) dX0_as_28 rfl (by decide) rfl ?_
      refine a_aload_n (pc := 29) (i := 0) dX0_as_29 rfl rfl ?_
      refine a_aload_n (pc := 30) (i := 3) dX0_as_30 rfl rfl ?_
      refine a_cVi (pc := 31) (c_finds (by exact hx) 1 (by decide)) sX0_109_0 dX0_as_31 (recv_obj (t := 0) rfl (hx.s 30 rfl) (by decide) (hx.n (by decide))) rfl rfl (by decide) (Nat.le_of_ble_eq_true rfl) ?_
      exact a_iret (pc := 34) dX0_as_34 rfl (by (first | rw [show aAs σ p k = aErr σ 1 by grind [aAs, bI]] | rw [show aAs σ (nI j) k = aErr σ 1 by grind [aAs, bI]]); exact eI_of rfl (PX.of sm (PX.err (by decide) hx rx)))
  · skip
    refine a_cVt (pc := 9) (c_personAt0 (by exact hx) rx.1 _ _ (fun z => absurd z.2 (by decide))) sX0_161_0 dX0_as_9 (recv_obj (t := 0) rfl (hx.s 30 rfl) (by decide) (hx.n (by decide))) rfl rfl (by decide) (Nat.le_of_ble_eq_true rfl) ?_
    refine a_catch1 (t := 1) rfl (by decide) (by decide) (by decide) rfl q124 (hx.s 31 rfl) (by decide) (hx.n (by decide)) ?_
    refine a_astore_n (pc := 28) (i := 3) dX0_as_28 rfl (by decide) rfl ?_
    refine a_aload_n (pc := 29) (i := 0) dX0_as_29 rfl rfl ?_
    refine a_aload_n (pc := 30) (i := 3) dX0_as_30 rfl rfl ?_
    refine a_cVi (pc := 31) (c_finds (by exact hx) 1 (by decide)) sX0_109_0 dX0_as_31 (recv_obj (t := 0) rfl (hx.s 30 rfl) (by decide) (hx.n (by decide))) rfl rfl (by decide) (Nat.le_of_ble_eq_true rfl) ?_
    exact a_iret (pc := 34) dX0_as_34 rfl (by (first | rw [show aAs σ p k = aErr σ 1 by grind [aAs, bI]] | rw [show aAs σ (nI j) k = aErr σ 1 by grind [aAs, bI]]); exact eI_of rfl (PX.of sm (PX.err (by decide) hx rx)))
theorem x_law {g : Gl} {h : AH} {n : Nat} {σ : Sg} (hx : Fx h) (wf : Wf n σ) (rx : RX h σ) (u a b c : Int32) : AM g 150 mX0_law [.ref 30, .int u, .int a, .int b, .int c] h (eI (aLaw σ u a b c).1 (fun h2 => PX h h2 (aLaw σ u a b c).2)) := by
  refine AM.of (by decide) (Nat.le_of_ble_eq_true rfl) ?_
  show AW g mX0_law 150 _ 0 [some (.ref 30), some (.int u), some (.int a), some (.int b), some (.int c)] [] h
  have sm : Sm [31, 45, 76] h h := Sm.rf h
  refine a_aload_n (pc := 0) (i := 0) dX0_law_0 rfl rfl ?_
  refine a_iload_n (pc := 1) (i := 1) dX0_law_1 rfl rfl ?_
  refine a_iconst (pc := 2) (v := 0) dX0_law_2 (by decide) ?_
  refine a_iconst (pc := 3) (v := 1) dX0_law_3 (by decide) ?_
  refine a_cSi (pc := 4) (c_in _ _ _) sX0_85 dX0_law_4 rfl rfl (by decide) (Nat.le_of_ble_eq_true rfl) ?_
  refine a_iconst (pc := 7) (v := 1) dX0_law_7 (by decide) ?_
  refine a_bs1 (fun hP8 => ?_) (fun hP8 => ?_)
  · skip
    refine a_cVv (pc := 8) (c_need1 (by exact hx) _) sX0_100_0 dX0_law_8 (recv_obj (t := 0) rfl (hx.s 30 rfl) (by decide) (hx.n (by decide))) rfl rfl (by decide) (Nat.le_of_ble_eq_true rfl) ?_
    refine a_iload_n (pc := 11) (i := 1) dX0_law_11 rfl rfl ?_
    refine a_if_ne (pc := 12) (tgt := 29) dX0_law_12 (by decide) (fun c12 => ?_) (fun c12 => ?_)
    · skip
      refine a_aload_n (pc := 29) (i := 0) dX0_law_29 rfl rfl ?_
      refine a_getR (pc := 30) dX0_law_30 fX0_46_0 rfl (hx.s 30 rfl) (by decide) (hx.n (by decide)) (hx.r 30 1 32 rfl) ?_
      refine a_iload_n (pc := 33) (i := 2) dX0_law_33 rfl rfl ?_
      refine a_iload_n (pc := 34) (i := 3) dX0_law_34 rfl rfl ?_
      refine a_iload (pc := 35) dX0_law_35 rfl ?_
      refine a_cVe (pc := 37) (c_parchedBy hx rx.1.iX _ _ _) sX0_214_2 dX0_law_37 (recv_obj (t := 2) rfl (hx.s 32 rfl) (by decide) (hx.n (by decide))) rfl rfl (by decide) (Nat.le_of_ble_eq_true rfl) (fun h2 e2 => ?_)
      have hx := hx.sm e2
      have rx := rx.sm e2
      have sm := sm.tr (e2.mono (T := [31, 45, 76]))
      exact a_iret (pc := 40) dX0_law_40 rfl (by rw [show aLaw σ u a b c = (if u = 0 then needed σ.1 a b c else parch σ.1 a b c, σ) by grind [aLaw]]; exact eI_of (by grind) (PX.of sm (PX.sm (S := []) hx (Sm.rf _) rx)))
    · skip
      refine a_aload_n (pc := 15) (i := 0) dX0_law_15 rfl rfl ?_
      refine a_getR (pc := 16) dX0_law_16 fX0_46_0 rfl (hx.s 30 rfl) (by decide) (hx.n (by decide)) (hx.r 30 1 32 rfl) ?_
      refine a_iload_n (pc := 19) (i := 2) dX0_law_19 rfl rfl ?_
      refine a_iload_n (pc := 20) (i := 3) dX0_law_20 rfl rfl ?_
      refine a_iload (pc := 21) dX0_law_21 rfl ?_
      refine a_cVe (pc := 23) (c_needsBy hx rx.1.iX _ _ _) sX0_210_2 dX0_law_23 (recv_obj (t := 2) rfl (hx.s 32 rfl) (by decide) (hx.n (by decide))) rfl rfl (by decide) (Nat.le_of_ble_eq_true rfl) (fun h2 e2 => ?_)
      have hx := hx.sm e2
      have rx := rx.sm e2
      have sm := sm.tr (e2.mono (T := [31, 45, 76]))
      refine a_goto (pc := 26) (tgt := 40) dX0_law_26 (by decide) ?_
      exact a_iret (pc := 40) dX0_law_40 rfl (by rw [show aLaw σ u a b c = (if u = 0 then needed σ.1 a b c else parch σ.1 a b c, σ) by grind [aLaw]]; exact eI_of (by grind) (PX.of sm (PX.sm (S := []) hx (Sm.rf _) rx)))
  · skip
    refine a_cVt (pc := 8) (c_need0 (by exact hx) _) sX0_100_0 dX0_law_8 (recv_obj (t := 0) rfl (hx.s 30 rfl) (by decide) (hx.n (by decide))) rfl rfl (by decide) (Nat.le_of_ble_eq_true rfl) ?_
    refine a_catch1 (t := 1) rfl (by decide) (by decide) (by decide) rfl q124 (hx.s 31 rfl) (by decide) (hx.n (by decide)) ?_
    refine a_astore (pc := 41) dX0_law_41 (by decide) rfl ?_
    refine a_aload_n (pc := 43) (i := 0) dX0_law_43 rfl rfl ?_
    refine a_aload (pc := 44) dX0_law_44 rfl ?_
    refine a_cVi (pc := 46) (c_finds (by exact hx) 1 (by decide)) sX0_109_0 dX0_law_46 (recv_obj (t := 0) rfl (hx.s 30 rfl) (by decide) (hx.n (by decide))) rfl rfl (by decide) (Nat.le_of_ble_eq_true rfl) ?_
    exact a_iret (pc := 49) dX0_law_49 rfl (by rw [show aLaw σ u a b c = aErr σ 1 by grind [aLaw, bI]]; exact eI_of rfl (PX.of sm (PX.err (by decide) hx rx)))
theorem x_ofPerson {g : Gl} {h : AH} {n : Nat} {σ : Sg} (hx : Fx h) (wf : Wf n σ) (rx : RX h σ) (p w : Int32) : AM g 150 mX0_ofPerson [.ref 30, .int p, .int w] h (eI (aOfPerson σ p w).1 (fun h2 => PX h h2 (aOfPerson σ p w).2)) := by
  refine AM.of (by decide) (Nat.le_of_ble_eq_true rfl) ?_
  show AW g mX0_ofPerson 150 _ 0 [some (.ref 30), some (.int p), some (.int w)] [] h
  have sm : Sm [31, 45, 76] h h := Sm.rf h
  refine a_aload_n (pc := 0) (i := 0) dX0_ofPerson_0 rfl rfl ?_
  refine a_iload_n (pc := 1) (i := 1) dX0_ofPerson_1 rfl rfl ?_
  refine a_iload_n (pc := 2) (i := 2) dX0_ofPerson_2 rfl rfl ?_
  refine a_iconst (pc := 3) (v := 0) dX0_ofPerson_3 (by decide) ?_
  refine a_bipush (pc := 4) (v := 8) dX0_ofPerson_4 (by decide) ?_
  refine a_cSi (pc := 6) (c_in _ _ _) sX0_85 dX0_ofPerson_6 rfl rfl (by decide) (Nat.le_of_ble_eq_true rfl) ?_
  refine a_bs0 (fun hO => ?_) (fun hO => ?_)
  · skip
    by_cases hI : 0 ≤ p ∧ p ≤ σ.1 3 3 - 1
    · skip
      obtain ⟨j, hj, hj6, rfl⟩ := isP_ex wf.1.wMany hI
      have tj : tn (nI j) = j := tn_nI (by omega)
      obtain ⟨r, er, pr⟩ := rx.1.iU.1 j hj
      refine a_cVr (pc := 9) (c_personAt1 (by exact hx) rx.1 j hj6 hI er) sX0_161_0 dX0_ofPerson_9 (recv_obj (t := 0) rfl (hx.s 30 rfl) (by decide) (hx.n (by decide))) rfl rfl (by decide) (Nat.le_of_ble_eq_true rfl) ?_
      obtain ⟨k, hk, rfl⟩ := nI_ex hO (n := 8) rfl
      refine a_astore_n (pc := 12) (i := 3) dX0_ofPerson_12 rfl (by decide) rfl ?_
      refine a_iload_n (pc := 13) (i := 2) dX0_ofPerson_13 rfl rfl ?_
      have hv : k = 0 ∨ k = 1 ∨ k = 2 ∨ k = 3 ∨ k = 4 ∨ k = 5 ∨ k = 6 ∨ k = 7 ∨ k = 8 := by omega
      rcases hv with rfl | rfl | rfl | rfl | rfl | rfl | rfl | rfl | rfl
      · skip
        refine a_tblIn (pc := 14) (tgt := 60) dX0_ofPerson_14 (by decide) (by decide) rfl (by decide) ?_
        refine a_aload_n (pc := 60) (i := 3) dX0_ofPerson_60 rfl rfl ?_
        refine d_kind_X0 (pc := 61) pr rfl dX0_ofPerson_61 (by decide) (Nat.le_of_ble_eq_true rfl) ?_
        exact a_iret (pc := 64) dX0_ofPerson_64 rfl (by rw [show aOfPerson σ (nI j) (nI 0) = (σ.1 4 j, σ) from (by unfold aOfPerson; rw [if_pos ⟨hI, by decide⟩, tj]; rfl)]; exact eI_of rfl (PX.of sm (PX.sm (S := []) hx (Sm.rf _) rx)))
      · skip
        refine a_tblIn (pc := 14) (tgt := 65) dX0_ofPerson_14 (by decide) (by decide) rfl (by decide) ?_
        refine a_aload_n (pc := 65) (i := 3) dX0_ofPerson_65 rfl rfl ?_
        refine d_m_X0 (pc := 66) pr rfl dX0_ofPerson_66 ?_
        exact a_iret (pc := 69) dX0_ofPerson_69 rfl (by rw [show aOfPerson σ (nI j) (nI 1) = (σ.1 5 j, σ) from (by unfold aOfPerson; rw [if_pos ⟨hI, by decide⟩, tj]; rfl)]; exact eI_of rfl (PX.of sm (PX.sm (S := []) hx (Sm.rf _) rx)))
      · skip
        refine a_tblIn (pc := 14) (tgt := 70) dX0_ofPerson_14 (by decide) (by decide) rfl (by decide) ?_
        refine a_aload_n (pc := 70) (i := 0) dX0_ofPerson_70 rfl rfl ?_
        refine a_getR (pc := 71) dX0_ofPerson_71 fX0_46_0 rfl (hx.s 30 rfl) (by decide) (hx.n (by decide)) (hx.r 30 1 32 rfl) ?_
        refine a_getR (pc := 74) dX0_ofPerson_74 fX0_134_2 rfl (hx.s 32 rfl) (by decide) (hx.n (by decide)) (hx.r 32 8 37 rfl) ?_
        refine a_iload_n (pc := 77) (i := 1) dX0_ofPerson_77 rfl rfl ?_
        refine a_ialdN (pc := 78) dX0_ofPerson_78 (hx.s 37 rfl) (by decide) (hx.n (by decide)) (k := j) rfl ⟨hj6, by decide⟩ ?_
        exact a_iret (pc := 79) dX0_ofPerson_79 rfl (by rw [show aOfPerson σ (nI j) (nI 2) = (σ.1 6 j, σ) from (by unfold aOfPerson; rw [if_pos ⟨hI, by decide⟩, tj]; rfl)]; exact eI_of (rx.1.iA j hj6) (PX.of sm (PX.sm (S := []) hx (Sm.rf _) rx)))
      · skip
        refine a_tblIn (pc := 14) (tgt := 80) dX0_ofPerson_14 (by decide) (by decide) rfl (by decide) ?_
        refine a_aload_n (pc := 80) (i := 0) dX0_ofPerson_80 rfl rfl ?_
        refine a_getR (pc := 81) dX0_ofPerson_81 fX0_46_0 rfl (hx.s 30 rfl) (by decide) (hx.n (by decide)) (hx.r 30 1 32 rfl) ?_
        refine a_getR (pc := 84) dX0_ofPerson_84 fX0_131_2 rfl (hx.s 32 rfl) (by decide) (hx.n (by decide)) (hx.r 32 9 38 rfl) ?_
        refine a_iload_n (pc := 87) (i := 1) dX0_ofPerson_87 rfl rfl ?_
        refine a_ialdN (pc := 88) dX0_ofPerson_88 (hx.s 38 rfl) (by decide) (hx.n (by decide)) (k := j) rfl ⟨hj6, by decide⟩ ?_
        exact a_iret (pc := 89) dX0_ofPerson_89 rfl (by rw [show aOfPerson σ (nI j) (nI 3) = (σ.1 7 j, σ) from (by unfold aOfPerson; rw [if_pos ⟨hI, by decide⟩, tj]; rfl)]; exact eI_of (rx.1.iN j hj6) (PX.of sm (PX.sm (S := []) hx (Sm.rf _) rx)))
      · skip
        refine a_tblIn (pc := 14) (tgt := 90) dX0_ofPerson_14 (by decide) (by decide) rfl (by decide) ?_
        refine a_aload_n (pc := 90) (i := 0) dX0_ofPerson_90 rfl rfl ?_
        refine a_getR (pc := 91) dX0_ofPerson_91 fX0_46_0 rfl (hx.s 30 rfl) (by decide) (hx.n (by decide)) (hx.r 30 1 32 rfl) ?_
        refine a_getR (pc := 94) dX0_ofPerson_94 fX0_155_2 rfl (hx.s 32 rfl) (by decide) (hx.n (by decide)) (hx.r 32 10 39 rfl) ?_
        refine a_iload_n (pc := 97) (i := 1) dX0_ofPerson_97 rfl rfl ?_
        refine a_ialdN (pc := 98) dX0_ofPerson_98 (hx.s 39 rfl) (by decide) (hx.n (by decide)) (k := j) rfl ⟨hj6, by decide⟩ ?_
        exact a_iret (pc := 99) dX0_ofPerson_99 rfl (by rw [show aOfPerson σ (nI j) (nI 4) = (σ.1 8 j, σ) from (by unfold aOfPerson; rw [if_pos ⟨hI, by decide⟩, tj]; rfl)]; exact eI_of (rx.1.iT j hj6) (PX.of sm (PX.sm (S := []) hx (Sm.rf _) rx)))
      · skip
        refine a_tblIn (pc := 14) (tgt := 100) dX0_ofPerson_14 (by decide) (by decide) rfl (by decide) ?_
        refine a_aload_n (pc := 100) (i := 0) dX0_ofPerson_100 rfl rfl ?_
        refine a_getR (pc := 101) dX0_ofPerson_101 fX0_46_0 rfl (hx.s 30 rfl) (by decide) (hx.n (by decide)) (hx.r 30 1 32 rfl) ?_
        refine a_getR (pc := 104) dX0_ofPerson_104 fX0_127_2 rfl (hx.s 32 rfl) (by decide) (hx.n (by decide)) (hx.r 32 11 40 rfl) ?_
        refine a_iload_n (pc := 107) (i := 1) dX0_ofPerson_107 rfl rfl ?_
        refine a_zaldN (pc := 108) dX0_ofPerson_108 (hx.s 40 rfl) (by decide) (hx.n (by decide)) (k := j) rfl ⟨hj6, by decide⟩ ?_
        refine a_if_eq (pc := 109) (tgt := 116) dX0_ofPerson_109 (by decide) (fun c109 => ?_) (fun c109 => ?_)
        · skip
          refine a_iconst (pc := 116) (v := 0) dX0_ofPerson_116 (by decide) ?_
          exact a_iret (pc := 117) dX0_ofPerson_117 rfl (by rw [show aOfPerson σ (nI j) (nI 5) = (σ.1 9 j, σ) from (by unfold aOfPerson; rw [if_pos ⟨hI, by decide⟩, tj]; rfl)]; exact eI_of (by have q := rx.1.iD j hj6; have q2 := wf.1.wD j hj6; grind) (PX.of sm (PX.sm (S := []) hx (Sm.rf _) rx)))
        · skip
          refine a_iconst (pc := 112) (v := 1) dX0_ofPerson_112 (by decide) ?_
          refine a_goto (pc := 113) (tgt := 117) dX0_ofPerson_113 (by decide) ?_
          exact a_iret (pc := 117) dX0_ofPerson_117 rfl (by rw [show aOfPerson σ (nI j) (nI 5) = (σ.1 9 j, σ) from (by unfold aOfPerson; rw [if_pos ⟨hI, by decide⟩, tj]; rfl)]; exact eI_of (by have q := rx.1.iD j hj6; have q2 := wf.1.wD j hj6; grind) (PX.of sm (PX.sm (S := []) hx (Sm.rf _) rx)))
      · skip
        refine a_tblIn (pc := 14) (tgt := 118) dX0_ofPerson_14 (by decide) (by decide) rfl (by decide) ?_
        refine a_aload_n (pc := 118) (i := 3) dX0_ofPerson_118 rfl rfl ?_
        refine d_limit_X0 (pc := 119) pr rfl dX0_ofPerson_119 (by decide) (Nat.le_of_ble_eq_true rfl) ?_
        exact a_iret (pc := 122) dX0_ofPerson_122 rfl (by rw [show aOfPerson σ (nI j) (nI 6) = (limOf (σ.1 4 j) (σ.1 5 j), σ) from (by unfold aOfPerson; rw [if_pos ⟨hI, by decide⟩, tj]; rfl)]; exact eI_of rfl (PX.of sm (PX.sm (S := []) hx (Sm.rf _) rx)))
      · skip
        refine a_tblIn (pc := 14) (tgt := 123) dX0_ofPerson_14 (by decide) (by decide) rfl (by decide) ?_
        refine a_aload_n (pc := 123) (i := 0) dX0_ofPerson_123 rfl rfl ?_
        refine a_getR (pc := 124) dX0_ofPerson_124 fX0_46_0 rfl (hx.s 30 rfl) (by decide) (hx.n (by decide)) (hx.r 30 1 32 rfl) ?_
        refine a_iload_n (pc := 127) (i := 1) dX0_ofPerson_127 rfl rfl ?_
        refine a_cVe (pc := 128) (c_needs hx wf.1.many.1 rx.1 j hj) sX0_175_2 dX0_ofPerson_128 (recv_obj (t := 2) rfl (hx.s 32 rfl) (by decide) (hx.n (by decide))) rfl rfl (by decide) (Nat.le_of_ble_eq_true rfl) (fun h2 e2 => ?_)
        have hx := hx.sm e2
        have rx := rx.sm e2
        have sm := sm.tr (e2.mono (T := [31, 45, 76]))
        exact a_iret (pc := 131) dX0_ofPerson_131 rfl (by rw [show aOfPerson σ (nI j) (nI 7) = (needsOf σ.1 (σ.1 4 j) (σ.1 5 j) (σ.1 8 j), σ) from (by unfold aOfPerson; rw [if_pos ⟨hI, by decide⟩, tj]; rfl)]; exact eI_of rfl (PX.of sm (PX.sm (S := []) hx (Sm.rf _) rx)))
      · skip
        refine a_tblOut (pc := 14) (tgt := 132) dX0_ofPerson_14 (by decide) (by decide) ?_
        refine a_aload_n (pc := 132) (i := 0) dX0_ofPerson_132 rfl rfl ?_
        refine a_getR (pc := 133) dX0_ofPerson_133 fX0_46_0 rfl (hx.s 30 rfl) (by decide) (hx.n (by decide)) (hx.r 30 1 32 rfl) ?_
        refine a_aload_n (pc := 136) (i := 0) dX0_ofPerson_136 rfl rfl ?_
        refine a_getR (pc := 137) dX0_ofPerson_137 fX0_46_0 rfl (hx.s 30 rfl) (by decide) (hx.n (by decide)) (hx.r 30 1 32 rfl) ?_
        refine a_getR (pc := 140) dX0_ofPerson_140 fX0_131_2 rfl (hx.s 32 rfl) (by decide) (hx.n (by decide)) (hx.r 32 9 38 rfl) ?_
        refine a_iload_n (pc := 143) (i := 1) dX0_ofPerson_143 rfl rfl ?_
        refine a_ialdN (pc := 144) dX0_ofPerson_144 (hx.s 38 rfl) (by decide) (hx.n (by decide)) (k := j) rfl ⟨hj6, by decide⟩ ?_
        refine a_cVi (pc := 145) (c_owesOf hx rx.1 _ (by rw [show gI h 38 j = _ from rx.1.iN j hj6]; exact wf.1.wN j hj6)) sX0_137_2 dX0_ofPerson_145 (recv_obj (t := 2) rfl (hx.s 32 rfl) (by decide) (hx.n (by decide))) rfl rfl (by decide) (Nat.le_of_ble_eq_true rfl) ?_
        rw [show gI h 38 j = _ from rx.1.iN j hj6]
        exact a_iret (pc := 148) dX0_ofPerson_148 rfl (by rw [show aOfPerson σ (nI j) (nI 8) = (owesD σ.1 (σ.1 7 j), σ) from (by unfold aOfPerson; rw [if_pos ⟨hI, by decide⟩, tj]; rfl)]; exact eI_of rfl (PX.of sm (PX.sm (S := []) hx (Sm.rf _) rx)))
    · skip
      refine a_cVt (pc := 9) (c_personAt0 (by exact hx) rx.1 _ _ (fun z => hI z.1)) sX0_161_0 dX0_ofPerson_9 (recv_obj (t := 0) rfl (hx.s 30 rfl) (by decide) (hx.n (by decide))) rfl rfl (by decide) (Nat.le_of_ble_eq_true rfl) ?_
      refine a_catch1 (t := 1) rfl (by decide) (by decide) (by decide) rfl q124 (hx.s 31 rfl) (by decide) (hx.n (by decide)) ?_
      refine a_astore_n (pc := 149) (i := 3) dX0_ofPerson_149 rfl (by decide) rfl ?_
      refine a_aload_n (pc := 150) (i := 0) dX0_ofPerson_150 rfl rfl ?_
      refine a_aload_n (pc := 151) (i := 3) dX0_ofPerson_151 rfl rfl ?_
      refine a_cVi (pc := 152) (c_finds (by exact hx) 1 (by decide)) sX0_109_0 dX0_ofPerson_152 (recv_obj (t := 0) rfl (hx.s 30 rfl) (by decide) (hx.n (by decide))) rfl rfl (by decide) (Nat.le_of_ble_eq_true rfl) ?_
      exact a_iret (pc := 155) dX0_ofPerson_155 rfl (by (first | rw [show aOfPerson σ p w = aErr σ 1 by grind [aOfPerson, bI]] | rw [show aOfPerson σ (nI j) w = aErr σ 1 by grind [aOfPerson, bI]]); exact eI_of rfl (PX.of sm (PX.err (by decide) hx rx)))
  · skip
    refine a_cVt (pc := 9) (c_personAt0 (by exact hx) rx.1 _ _ (fun z => absurd z.2 (by decide))) sX0_161_0 dX0_ofPerson_9 (recv_obj (t := 0) rfl (hx.s 30 rfl) (by decide) (hx.n (by decide))) rfl rfl (by decide) (Nat.le_of_ble_eq_true rfl) ?_
    refine a_catch1 (t := 1) rfl (by decide) (by decide) (by decide) rfl q124 (hx.s 31 rfl) (by decide) (hx.n (by decide)) ?_
    refine a_astore_n (pc := 149) (i := 3) dX0_ofPerson_149 rfl (by decide) rfl ?_
    refine a_aload_n (pc := 150) (i := 0) dX0_ofPerson_150 rfl rfl ?_
    refine a_aload_n (pc := 151) (i := 3) dX0_ofPerson_151 rfl rfl ?_
    refine a_cVi (pc := 152) (c_finds (by exact hx) 1 (by decide)) sX0_109_0 dX0_ofPerson_152 (recv_obj (t := 0) rfl (hx.s 30 rfl) (by decide) (hx.n (by decide))) rfl rfl (by decide) (Nat.le_of_ble_eq_true rfl) ?_
    exact a_iret (pc := 155) dX0_ofPerson_155 rfl (by (first | rw [show aOfPerson σ p w = aErr σ 1 by grind [aOfPerson, bI]] | rw [show aOfPerson σ (nI j) w = aErr σ 1 by grind [aOfPerson, bI]]); exact eI_of rfl (PX.of sm (PX.err (by decide) hx rx)))
theorem x_drink {g : Gl} {h : AH} {n : Nat} {σ : Sg} (hx : Fx h) (wf : Wf n σ) (rx : RX h σ) (p : Int32) : AM g 150 mX0_drink [.ref 30, .int p] h (eI (aDrink σ p).1 (fun h2 => PX h h2 (aDrink σ p).2)) := by
  refine AM.of (by decide) (Nat.le_of_ble_eq_true rfl) ?_
  show AW g mX0_drink 150 _ 0 [some (.ref 30), some (.int p)] [] h
  have sm : Sm [31, 45, 76] h h := Sm.rf h
  refine a_aload_n (pc := 0) (i := 0) dX0_drink_0 rfl rfl ?_
  refine a_aload_n (pc := 1) (i := 0) dX0_drink_1 rfl rfl ?_
  refine a_iload_n (pc := 2) (i := 1) dX0_drink_2 rfl rfl ?_
  refine a_cVi (pc := 3) (c_isPerson (by exact hx) rx.1 _) sX0_158_0 dX0_drink_3 (recv_obj (t := 0) rfl (hx.s 30 rfl) (by decide) (hx.n (by decide))) rfl rfl (by decide) (Nat.le_of_ble_eq_true rfl) ?_
  refine a_iconst (pc := 6) (v := 1) dX0_drink_6 (by decide) ?_
  refine a_bs1 (fun hP7 => ?_) (fun hP7 => ?_)
  · skip
    refine a_cVv (pc := 7) (c_need1 (by exact hx) _) sX0_100_0 dX0_drink_7 (recv_obj (t := 0) rfl (hx.s 30 rfl) (by decide) (hx.n (by decide))) rfl rfl (by decide) (Nat.le_of_ble_eq_true rfl) ?_
    obtain ⟨j, hj, hj6, rfl⟩ := isP_ex wf.1.wMany hP7
    have tj : tn (nI j) = j := tn_nI (by omega)
    refine a_aload_n (pc := 10) (i := 0) dX0_drink_10 rfl rfl ?_
    refine a_aload_n (pc := 11) (i := 0) dX0_drink_11 rfl rfl ?_
    refine a_getR (pc := 12) dX0_drink_12 fX0_46_0 rfl (hx.s 30 rfl) (by decide) (hx.n (by decide)) (hx.r 30 1 32 rfl) ?_
    refine a_iload_n (pc := 15) (i := 1) dX0_drink_15 rfl rfl ?_
    refine a_cVe (pc := 16) (c_canDrink hx wf.1 rx.1 j hj) sX0_217_2 dX0_drink_16 (recv_obj (t := 2) rfl (hx.s 32 rfl) (by decide) (hx.n (by decide))) rfl rfl (by decide) (Nat.le_of_ble_eq_true rfl) (fun h2 e2 => ?_)
    have hx := hx.sm e2
    have rx := rx.sm e2
    have sm := sm.tr (e2.mono (T := [31, 45, 76]))
    refine a_iconst (pc := 19) (v := 3) dX0_drink_19 (by decide) ?_
    refine a_bs1 (fun hP20 => ?_) (fun hP20 => ?_)
    · skip
      refine a_cVv (pc := 20) (c_need1 (by exact hx) _) sX0_100_0 dX0_drink_20 (recv_obj (t := 0) rfl (hx.s 30 rfl) (by decide) (hx.n (by decide))) rfl rfl (by decide) (Nat.le_of_ble_eq_true rfl) ?_
      refine a_aload_n (pc := 23) (i := 0) dX0_drink_23 rfl rfl ?_
      refine a_getR (pc := 24) dX0_drink_24 fX0_46_0 rfl (hx.s 30 rfl) (by decide) (hx.n (by decide)) (hx.r 30 1 32 rfl) ?_
      refine a_iload_n (pc := 27) (i := 1) dX0_drink_27 rfl rfl ?_
      refine a_cVw (pc := 28) (c_drinks hx wf.1 rx.1 j hj) sX0_220_2 dX0_drink_28 (recv_obj (t := 2) rfl (hx.s 32 rfl) (by decide) (hx.n (by decide))) rfl rfl (by decide) (Nat.le_of_ble_eq_true rfl) (fun h3 e3 => ?_)
      have hx0 := hx
      have hx := hx.sm e3.2
      refine a_aload_n (pc := 31) (i := 0) dX0_drink_31 rfl rfl ?_
      refine a_getR (pc := 32) dX0_drink_32 fX0_46_0 rfl (hx.s 30 rfl) (by decide) (hx.n (by decide)) (hx.r 30 1 32 rfl) ?_
      refine a_getR (pc := 35) dX0_drink_35 fX0_131_2 rfl (hx.s 32 rfl) (by decide) (hx.n (by decide)) (hx.r 32 9 38 rfl) ?_
      refine a_iload_n (pc := 38) (i := 1) dX0_drink_38 rfl rfl ?_
      refine a_ialdN (pc := 39) dX0_drink_39 (hx.s 38 rfl) (by decide) (hx.n (by decide)) (k := j) rfl ⟨hj6, by decide⟩ ?_
      exact a_iret (pc := 40) dX0_drink_40 rfl (by rw [show aDrink σ (nI j) = (driD σ.1 j 7 j, oD σ (driD σ.1 j)) by grind [aDrink]]; exact eI_of (e3.1.iN j hj6) (PX.of sm (PX.sm (S := [33, 38, 39, 45]) hx0 e3.2 (rx.smD e3.2 e3.1))))
    · skip
      refine a_cVt (pc := 20) (c_need0 (by exact hx) _) sX0_100_0 dX0_drink_20 (recv_obj (t := 0) rfl (hx.s 30 rfl) (by decide) (hx.n (by decide))) rfl rfl (by decide) (Nat.le_of_ble_eq_true rfl) ?_
      refine a_catch1 (t := 1) rfl (by decide) (by decide) (by decide) rfl q124 (hx.s 31 rfl) (by decide) (hx.n (by decide)) ?_
      refine a_astore_n (pc := 41) (i := 2) dX0_drink_41 rfl (by decide) rfl ?_
      refine a_aload_n (pc := 42) (i := 0) dX0_drink_42 rfl rfl ?_
      refine a_aload_n (pc := 43) (i := 2) dX0_drink_43 rfl rfl ?_
      refine a_cVi (pc := 44) (c_finds (by exact hx) 3 (by decide)) sX0_109_0 dX0_drink_44 (recv_obj (t := 0) rfl (hx.s 30 rfl) (by decide) (hx.n (by decide))) rfl rfl (by decide) (Nat.le_of_ble_eq_true rfl) ?_
      exact a_iret (pc := 47) dX0_drink_47 rfl (by (first | rw [show aDrink σ p = aErr σ 3 by grind [aDrink, bI]] | rw [show aDrink σ (nI j) = aErr σ 3 by grind [aDrink, bI]]); exact eI_of rfl (PX.of sm (PX.err (by decide) hx rx)))
  · skip
    refine a_cVt (pc := 7) (c_need0 (by exact hx) _) sX0_100_0 dX0_drink_7 (recv_obj (t := 0) rfl (hx.s 30 rfl) (by decide) (hx.n (by decide))) rfl rfl (by decide) (Nat.le_of_ble_eq_true rfl) ?_
    refine a_catch1 (t := 1) rfl (by decide) (by decide) (by decide) rfl q124 (hx.s 31 rfl) (by decide) (hx.n (by decide)) ?_
    refine a_astore_n (pc := 41) (i := 2) dX0_drink_41 rfl (by decide) rfl ?_
    refine a_aload_n (pc := 42) (i := 0) dX0_drink_42 rfl rfl ?_
    refine a_aload_n (pc := 43) (i := 2) dX0_drink_43 rfl rfl ?_
    refine a_cVi (pc := 44) (c_finds (by exact hx) 1 (by decide)) sX0_109_0 dX0_drink_44 (recv_obj (t := 0) rfl (hx.s 30 rfl) (by decide) (hx.n (by decide))) rfl rfl (by decide) (Nat.le_of_ble_eq_true rfl) ?_
    exact a_iret (pc := 47) dX0_drink_47 rfl (by (first | rw [show aDrink σ p = aErr σ 1 by grind [aDrink, bI]] | rw [show aDrink σ (nI j) = aErr σ 1 by grind [aDrink, bI]]); exact eI_of rfl (PX.of sm (PX.err (by decide) hx rx)))
theorem x_go {g : Gl} {h : AH} {n : Nat} {σ : Sg} (hx : Fx h) (wf : Wf n σ) (rx : RX h σ) (p w : Int32) : AM g 150 mX0_go [.ref 30, .int p, .int w] h (eI (aGo σ p w).1 (fun h2 => PX h h2 (aGo σ p w).2)) := by
  refine AM.of (by decide) (Nat.le_of_ble_eq_true rfl) ?_
  show AW g mX0_go 150 _ 0 [some (.ref 30), some (.int p), some (.int w)] [] h
  have sm : Sm [31, 45, 76] h h := Sm.rf h
  refine a_aload_n (pc := 0) (i := 0) dX0_go_0 rfl rfl ?_
  refine a_aload_n (pc := 1) (i := 0) dX0_go_1 rfl rfl ?_
  refine a_iload_n (pc := 2) (i := 1) dX0_go_2 rfl rfl ?_
  refine a_cVi (pc := 3) (c_isPerson (by exact hx) rx.1 _) sX0_158_0 dX0_go_3 (recv_obj (t := 0) rfl (hx.s 30 rfl) (by decide) (hx.n (by decide))) rfl rfl (by decide) (Nat.le_of_ble_eq_true rfl) ?_
  refine a_if_eq (pc := 6) (tgt := 29) dX0_go_6 (by decide) (fun c6 => ?_) (fun c6 => ?_)
  · skip
    refine a_iconst (pc := 29) (v := 0) dX0_go_29 (by decide) ?_
    refine a_iconst (pc := 30) (v := 1) dX0_go_30 (by decide) ?_
    refine a_cVt (pc := 31) (c_need0 (by exact hx) _) sX0_100_0 dX0_go_31 (recv_obj (t := 0) rfl (hx.s 30 rfl) (by decide) (hx.n (by decide))) rfl rfl (by decide) (Nat.le_of_ble_eq_true rfl) ?_
    refine a_catch1 (t := 1) rfl (by decide) (by decide) (by decide) rfl q124 (hx.s 31 rfl) (by decide) (hx.n (by decide)) ?_
    refine a_astore_n (pc := 111) (i := 3) dX0_go_111 rfl (by decide) rfl ?_
    refine a_aload_n (pc := 112) (i := 0) dX0_go_112 rfl rfl ?_
    refine a_aload_n (pc := 113) (i := 3) dX0_go_113 rfl rfl ?_
    refine a_cVi (pc := 114) (c_finds (by exact hx) 1 (by decide)) sX0_109_0 dX0_go_114 (recv_obj (t := 0) rfl (hx.s 30 rfl) (by decide) (hx.n (by decide))) rfl rfl (by decide) (Nat.le_of_ble_eq_true rfl) ?_
    exact a_iret (pc := 117) dX0_go_117 rfl (by (first | rw [show aGo σ p w = aErr σ 1 by grind [aGo, bI]] | rw [show aGo σ (nI j) w = aErr σ 1 by grind [aGo, bI]] | rw [show aGo σ (nI j) (nI v) = aErr σ 1 by grind [aGo, bI]]); exact eI_of rfl (PX.of sm (PX.err (by decide) hx rx)))
  · skip
    obtain ⟨j, hj, hj6, rfl⟩ := isP_ex wf.1.wMany (bI_n.mp c6)
    have tj : tn (nI j) = j := tn_nI (by omega)
    obtain ⟨a, ha, ea⟩ := wf.1.wA j hj6
    have ha0 : 0 ≤ nI a ∧ nI a ≤ 7 := ⟨nI_pos (n := a) (by omega) |> Int32.not_lt.mp, nI_le (b := 7) ha (by decide)⟩
    have ea2 : gI h 37 j = nI a := (rx.1.iA j hj6).trans ea
    have ta : tn (σ.1 6 j) = a := by rw [ea]; exact tn_nI (by omega)
    refine a_iload_n (pc := 9) (i := 2) dX0_go_9 rfl rfl ?_
    refine a_aload_n (pc := 10) (i := 0) dX0_go_10 rfl rfl ?_
    refine a_getR (pc := 11) dX0_go_11 fX0_46_0 rfl (hx.s 30 rfl) (by decide) (hx.n (by decide)) (hx.r 30 1 32 rfl) ?_
    refine a_getR (pc := 14) dX0_go_14 fX0_134_2 rfl (hx.s 32 rfl) (by decide) (hx.n (by decide)) (hx.r 32 8 37 rfl) ?_
    refine a_iload_n (pc := 17) (i := 1) dX0_go_17 rfl rfl ?_
    refine a_ialdN (pc := 18) dX0_go_18 (hx.s 37 rfl) (by decide) (hx.n (by decide)) (k := j) rfl ⟨hj6, by decide⟩ ?_
    rw [ea2]
    refine a_cSi (pc := 19) (c_areTwo _ _) sX0_113 dX0_go_19 rfl rfl (by decide) (Nat.le_of_ble_eq_true rfl) ?_
    refine a_if_eq (pc := 22) (tgt := 29) dX0_go_22 (by decide) (fun c22 => ?_) (fun c22 => ?_)
    · skip
      refine a_iconst (pc := 29) (v := 0) dX0_go_29 (by decide) ?_
      refine a_iconst (pc := 30) (v := 1) dX0_go_30 (by decide) ?_
      refine a_cVt (pc := 31) (c_need0 (by exact hx) _) sX0_100_0 dX0_go_31 (recv_obj (t := 0) rfl (hx.s 30 rfl) (by decide) (hx.n (by decide))) rfl rfl (by decide) (Nat.le_of_ble_eq_true rfl) ?_
      refine a_catch1 (t := 1) rfl (by decide) (by decide) (by decide) rfl q124 (hx.s 31 rfl) (by decide) (hx.n (by decide)) ?_
      refine a_astore_n (pc := 111) (i := 3) dX0_go_111 rfl (by decide) rfl ?_
      refine a_aload_n (pc := 112) (i := 0) dX0_go_112 rfl rfl ?_
      refine a_aload_n (pc := 113) (i := 3) dX0_go_113 rfl rfl ?_
      refine a_cVi (pc := 114) (c_finds (by exact hx) 1 (by decide)) sX0_109_0 dX0_go_114 (recv_obj (t := 0) rfl (hx.s 30 rfl) (by decide) (hx.n (by decide))) rfl rfl (by decide) (Nat.le_of_ble_eq_true rfl) ?_
      exact a_iret (pc := 117) dX0_go_117 rfl (by (first | rw [show aGo σ p w = aErr σ 1 by grind [aGo, bI]] | rw [show aGo σ (nI j) w = aErr σ 1 by grind [aGo, bI]] | rw [show aGo σ (nI j) (nI v) = aErr σ 1 by grind [aGo, bI]]); exact eI_of rfl (PX.of sm (PX.err (by decide) hx rx)))
    · skip
      refine a_iconst (pc := 25) (v := 1) dX0_go_25 (by decide) ?_
      refine a_goto (pc := 26) (tgt := 30) dX0_go_26 (by decide) ?_
      refine a_iconst (pc := 30) (v := 1) dX0_go_30 (by decide) ?_
      refine a_cVv (pc := 31) (c_need1 (by exact hx) _) sX0_100_0 dX0_go_31 (recv_obj (t := 0) rfl (hx.s 30 rfl) (by decide) (hx.n (by decide))) rfl rfl (by decide) (Nat.le_of_ble_eq_true rfl) ?_
      obtain ⟨v, hv, rfl⟩ := nI_ex (bI_n.mp c22).1 (n := 7) rfl
      have tv : tn (nI v) = v := tn_nI (by omega)
      have el : gI h 34 (8 * a + v) = lenD σ.1 j v := by unfold lenD; rw [ta]; exact rx.1.iR _ (by omega)
      refine a_aload_n (pc := 34) (i := 0) dX0_go_34 rfl rfl ?_
      refine a_getR (pc := 35) dX0_go_35 fX0_46_0 rfl (hx.s 30 rfl) (by decide) (hx.n (by decide)) (hx.r 30 1 32 rfl) ?_
      refine a_aload_n (pc := 38) (i := 0) dX0_go_38 rfl rfl ?_
      refine a_getR (pc := 39) dX0_go_39 fX0_46_0 rfl (hx.s 30 rfl) (by decide) (hx.n (by decide)) (hx.r 30 1 32 rfl) ?_
      refine a_getR (pc := 42) dX0_go_42 fX0_134_2 rfl (hx.s 32 rfl) (by decide) (hx.n (by decide)) (hx.r 32 8 37 rfl) ?_
      refine a_iload_n (pc := 45) (i := 1) dX0_go_45 rfl rfl ?_
      refine a_ialdN (pc := 46) dX0_go_46 (hx.s 37 rfl) (by decide) (hx.n (by decide)) (k := j) rfl ⟨hj6, by decide⟩ ?_
      refine a_iload_n (pc := 47) (i := 2) dX0_go_47 rfl rfl ?_
      rw [ea2]
      refine a_cVi (pc := 48) (c_roadOf hx a v ha hv) sX0_117_2 dX0_go_48 (recv_obj (t := 2) rfl (hx.s 32 rfl) (by decide) (hx.n (by decide))) rfl rfl (by decide) (Nat.le_of_ble_eq_true rfl) ?_
      rw [el]
      refine a_istore_n (pc := 51) (i := 3) dX0_go_51 rfl (by decide) rfl ?_
      refine a_aload_n (pc := 52) (i := 0) dX0_go_52 rfl rfl ?_
      refine a_join 88 (bI (σ.1 9 j = 0 ∧ 0 < lenD σ.1 j v ∧ σ.1 3 1 + lenD σ.1 j v ≤ 99999)) ?_ (fun hJ53 => ?_)
      · skip
        refine a_iconst (pc := 88) (v := 3) dX0_go_88 (by decide) ?_
        refine a_bs1 (fun hP89 => ?_) (fun hP89 => ?_)
        · skip
          refine a_cVv (pc := 89) (c_need1 (by exact hx) _) sX0_100_0 dX0_go_89 (recv_obj (t := 0) rfl (hx.s 30 rfl) (by decide) (hx.n (by decide))) rfl rfl (by decide) (Nat.le_of_ble_eq_true rfl) ?_
          refine a_aload_n (pc := 92) (i := 0) dX0_go_92 rfl rfl ?_
          refine a_getR (pc := 93) dX0_go_93 fX0_46_0 rfl (hx.s 30 rfl) (by decide) (hx.n (by decide)) (hx.r 30 1 32 rfl) ?_
          refine a_iload_n (pc := 96) (i := 1) dX0_go_96 rfl rfl ?_
          refine a_iload_n (pc := 97) (i := 2) dX0_go_97 rfl rfl ?_
          refine a_cVw (pc := 98) (c_goes hx wf.1 rx.1 j hj v hv) sX0_228_2 dX0_go_98 (recv_obj (t := 2) rfl (hx.s 32 rfl) (by decide) (hx.n (by decide))) rfl rfl (by decide) (Nat.le_of_ble_eq_true rfl) (fun h3 e3 => ?_)
          have hx0 := hx
          have hx := hx.sm e3.2
          refine a_aload_n (pc := 101) (i := 0) dX0_go_101 rfl rfl ?_
          refine a_getR (pc := 102) dX0_go_102 fX0_46_0 rfl (hx.s 30 rfl) (by decide) (hx.n (by decide)) (hx.r 30 1 32 rfl) ?_
          refine a_getR (pc := 105) dX0_go_105 fX0_155_2 rfl (hx.s 32 rfl) (by decide) (hx.n (by decide)) (hx.r 32 10 39 rfl) ?_
          refine a_iload_n (pc := 108) (i := 1) dX0_go_108 rfl rfl ?_
          refine a_ialdN (pc := 109) dX0_go_109 (hx.s 39 rfl) (by decide) (hx.n (by decide)) (k := j) rfl ⟨hj6, by decide⟩ ?_
          exact a_iret (pc := 110) dX0_go_110 rfl (by rw [show aGo σ (nI j) (nI v) = (goeD σ.1 j v 8 j, oD σ (goeD σ.1 j v)) by grind [aGo, bI]]; exact eI_of (e3.1.iT j hj6) (PX.of sm (PX.sm (S := [32, 37, 39, 40, 45]) hx0 e3.2 (rx.smD e3.2 e3.1))))
        · skip
          refine a_cVt (pc := 89) (c_need0 (by exact hx) _) sX0_100_0 dX0_go_89 (recv_obj (t := 0) rfl (hx.s 30 rfl) (by decide) (hx.n (by decide))) rfl rfl (by decide) (Nat.le_of_ble_eq_true rfl) ?_
          refine a_catch1 (t := 1) rfl (by decide) (by decide) (by decide) rfl q124 (hx.s 31 rfl) (by decide) (hx.n (by decide)) ?_
          refine a_astore_n (pc := 111) (i := 3) dX0_go_111 rfl (by decide) rfl ?_
          refine a_aload_n (pc := 112) (i := 0) dX0_go_112 rfl rfl ?_
          refine a_aload_n (pc := 113) (i := 3) dX0_go_113 rfl rfl ?_
          refine a_cVi (pc := 114) (c_finds (by exact hx) 3 (by decide)) sX0_109_0 dX0_go_114 (recv_obj (t := 0) rfl (hx.s 30 rfl) (by decide) (hx.n (by decide))) rfl rfl (by decide) (Nat.le_of_ble_eq_true rfl) ?_
          exact a_iret (pc := 117) dX0_go_117 rfl (by (first | rw [show aGo σ p w = aErr σ 3 by grind [aGo, bI]] | rw [show aGo σ (nI j) w = aErr σ 3 by grind [aGo, bI]] | rw [show aGo σ (nI j) (nI v) = aErr σ 3 by grind [aGo, bI]]); exact eI_of rfl (PX.of sm (PX.err (by decide) hx rx)))
      · skip
        refine a_aload_n (pc := 53) (i := 0) dX0_go_53 rfl rfl ?_
        refine a_getR (pc := 54) dX0_go_54 fX0_46_0 rfl (hx.s 30 rfl) (by decide) (hx.n (by decide)) (hx.r 30 1 32 rfl) ?_
        refine a_getR (pc := 57) dX0_go_57 fX0_127_2 rfl (hx.s 32 rfl) (by decide) (hx.n (by decide)) (hx.r 32 11 40 rfl) ?_
        refine a_iload_n (pc := 60) (i := 1) dX0_go_60 rfl rfl ?_
        refine a_zaldN (pc := 61) dX0_go_61 (hx.s 40 rfl) (by decide) (hx.n (by decide)) (k := j) rfl ⟨hj6, by decide⟩ ?_
        refine a_if_ne (pc := 62) (tgt := 87) dX0_go_62 (by decide) (fun c62 => ?_) (fun c62 => ?_)
        · skip
          refine a_iconst (pc := 87) (v := 0) dX0_go_87 (by decide) ?_
          exact hJ53 _ (by have q1 : gI h 40 j = _ := rx.1.iD j hj6; have q2 : gI h 32 4 = _ := rx.1.iHour; grind [bI])
        · skip
          refine a_iload_n (pc := 65) (i := 3) dX0_go_65 rfl rfl ?_
          refine a_if_le (pc := 66) (tgt := 87) dX0_go_66 (by decide) (fun c66 => ?_) (fun c66 => ?_)
          · skip
            refine a_iconst (pc := 87) (v := 0) dX0_go_87 (by decide) ?_
            exact hJ53 _ (by have q1 : gI h 40 j = _ := rx.1.iD j hj6; have q2 : gI h 32 4 = _ := rx.1.iHour; grind [bI])
          · skip
            refine a_aload_n (pc := 69) (i := 0) dX0_go_69 rfl rfl ?_
            refine a_getR (pc := 70) dX0_go_70 fX0_46_0 rfl (hx.s 30 rfl) (by decide) (hx.n (by decide)) (hx.r 30 1 32 rfl) ?_
            refine a_getI (pc := 73) dX0_go_73 fX0_224_2 rfl (hx.s 32 rfl) (by decide) (hx.n (by decide)) ?_
            refine a_iload_n (pc := 76) (i := 3) dX0_go_76 rfl rfl ?_
            refine a_iadd (pc := 77) dX0_go_77 ?_
            refine a_ldc (pc := 78) dX0_go_78 q952 ?_
            refine a_icmp_gt (pc := 80) (tgt := 87) dX0_go_80 (by decide) (fun c80 => ?_) (fun c80 => ?_)
            · skip
              refine a_iconst (pc := 87) (v := 0) dX0_go_87 (by decide) ?_
              exact hJ53 _ (by have q1 : gI h 40 j = _ := rx.1.iD j hj6; have q2 : gI h 32 4 = _ := rx.1.iHour; grind [bI])
            · skip
              refine a_iconst (pc := 83) (v := 1) dX0_go_83 (by decide) ?_
              refine a_goto (pc := 84) (tgt := 88) dX0_go_84 (by decide) ?_
              exact hJ53 _ (by have q1 : gI h 40 j = _ := rx.1.iD j hj6; have q2 : gI h 32 4 = _ := rx.1.iHour; grind [bI])
theorem x_pay {g : Gl} {h : AH} {n : Nat} {σ : Sg} (hx : Fx h) (wf : Wf n σ) (rx : RX h σ) (p w v : Int32) : AM g 150 mX0_pay [.ref 30, .int p, .int w, .int v] h (eI (aPay σ p w v).1 (fun h2 => PX h h2 (aPay σ p w v).2)) := by
  refine AM.of (by decide) (Nat.le_of_ble_eq_true rfl) ?_
  show AW g mX0_pay 150 _ 0 [some (.ref 30), some (.int p), some (.int w), some (.int v)] [] h
  have sm : Sm [31, 45, 76] h h := Sm.rf h
  refine a_aload_n (pc := 0) (i := 0) dX0_pay_0 rfl rfl ?_
  refine a_aload_n (pc := 1) (i := 0) dX0_pay_1 rfl rfl ?_
  refine a_iload_n (pc := 2) (i := 1) dX0_pay_2 rfl rfl ?_
  refine a_cVi (pc := 3) (c_isPerson (by exact hx) rx.1 _) sX0_158_0 dX0_pay_3 (recv_obj (t := 0) rfl (hx.s 30 rfl) (by decide) (hx.n (by decide))) rfl rfl (by decide) (Nat.le_of_ble_eq_true rfl) ?_
  refine a_if_eq (pc := 6) (tgt := 44) dX0_pay_6 (by decide) (fun c6 => ?_) (fun c6 => ?_)
  · skip
    refine a_iconst (pc := 44) (v := 0) dX0_pay_44 (by decide) ?_
    refine a_iconst (pc := 45) (v := 1) dX0_pay_45 (by decide) ?_
    refine a_cVt (pc := 46) (c_need0 (by exact hx) _) sX0_100_0 dX0_pay_46 (recv_obj (t := 0) rfl (hx.s 30 rfl) (by decide) (hx.n (by decide))) rfl rfl (by decide) (Nat.le_of_ble_eq_true rfl) ?_
    refine a_catch1 (t := 1) rfl (by decide) (by decide) (by decide) rfl q124 (hx.s 31 rfl) (by decide) (hx.n (by decide)) ?_
    refine a_astore (pc := 152) dX0_pay_152 (by decide) rfl ?_
    refine a_aload_n (pc := 154) (i := 0) dX0_pay_154 rfl rfl ?_
    refine a_aload (pc := 155) dX0_pay_155 rfl ?_
    refine a_cVi (pc := 157) (c_finds (by exact hx) 1 (by decide)) sX0_109_0 dX0_pay_157 (recv_obj (t := 0) rfl (hx.s 30 rfl) (by decide) (hx.n (by decide))) rfl rfl (by decide) (Nat.le_of_ble_eq_true rfl) ?_
    exact a_iret (pc := 160) dX0_pay_160 rfl (by (first | rw [show aPay σ p w v = aErr σ 1 by grind [aPay, bI]] | rw [show aPay σ (nI j) w v = aErr σ 1 by grind [aPay, bI]] | rw [show aPay σ (nI j) (nI i) v = aErr σ 1 by grind [aPay, bI]]); exact eI_of rfl (PX.of sm (PX.err (by decide) hx rx)))
  · skip
    obtain ⟨j, hj, hj6, rfl⟩ := isP_ex wf.1.wMany (bI_n.mp c6)
    have tj : tn (nI j) = j := tn_nI (by omega)
    have en : gI h 38 j = σ.1 7 j := rx.1.iN j hj6
    have ed : gI h 40 j = σ.1 9 j := rx.1.iD j hj6
    refine a_iload_n (pc := 9) (i := 2) dX0_pay_9 rfl rfl ?_
    refine a_cSi (pc := 10) (c_isWell _) sX0_89 dX0_pay_10 rfl rfl (by decide) (Nat.le_of_ble_eq_true rfl) ?_
    refine a_if_eq (pc := 13) (tgt := 44) dX0_pay_13 (by decide) (fun c13 => ?_) (fun c13 => ?_)
    · skip
      refine a_iconst (pc := 44) (v := 0) dX0_pay_44 (by decide) ?_
      refine a_iconst (pc := 45) (v := 1) dX0_pay_45 (by decide) ?_
      refine a_cVt (pc := 46) (c_need0 (by exact hx) _) sX0_100_0 dX0_pay_46 (recv_obj (t := 0) rfl (hx.s 30 rfl) (by decide) (hx.n (by decide))) rfl rfl (by decide) (Nat.le_of_ble_eq_true rfl) ?_
      refine a_catch1 (t := 1) rfl (by decide) (by decide) (by decide) rfl q124 (hx.s 31 rfl) (by decide) (hx.n (by decide)) ?_
      refine a_astore (pc := 152) dX0_pay_152 (by decide) rfl ?_
      refine a_aload_n (pc := 154) (i := 0) dX0_pay_154 rfl rfl ?_
      refine a_aload (pc := 155) dX0_pay_155 rfl ?_
      refine a_cVi (pc := 157) (c_finds (by exact hx) 1 (by decide)) sX0_109_0 dX0_pay_157 (recv_obj (t := 0) rfl (hx.s 30 rfl) (by decide) (hx.n (by decide))) rfl rfl (by decide) (Nat.le_of_ble_eq_true rfl) ?_
      exact a_iret (pc := 160) dX0_pay_160 rfl (by (first | rw [show aPay σ p w v = aErr σ 1 by grind [aPay, bI]] | rw [show aPay σ (nI j) w v = aErr σ 1 by grind [aPay, bI]] | rw [show aPay σ (nI j) (nI i) v = aErr σ 1 by grind [aPay, bI]]); exact eI_of rfl (PX.of sm (PX.err (by decide) hx rx)))
    · skip
      refine a_aload_n (pc := 16) (i := 0) dX0_pay_16 rfl rfl ?_
      refine a_getR (pc := 17) dX0_pay_17 fX0_46_0 rfl (hx.s 30 rfl) (by decide) (hx.n (by decide)) (hx.r 30 1 32 rfl) ?_
      refine a_getR (pc := 20) dX0_pay_20 fX0_131_2 rfl (hx.s 32 rfl) (by decide) (hx.n (by decide)) (hx.r 32 9 38 rfl) ?_
      refine a_iload_n (pc := 23) (i := 1) dX0_pay_23 rfl rfl ?_
      refine a_ialdN (pc := 24) dX0_pay_24 (hx.s 38 rfl) (by decide) (hx.n (by decide)) (k := j) rfl ⟨hj6, by decide⟩ ?_
      refine a_iload_n (pc := 25) (i := 2) dX0_pay_25 rfl rfl ?_
      refine a_icmp_eq (pc := 26) (tgt := 44) dX0_pay_26 (by decide) (fun c26 => ?_) (fun c26 => ?_)
      · skip
        refine a_iconst (pc := 44) (v := 0) dX0_pay_44 (by decide) ?_
        refine a_iconst (pc := 45) (v := 1) dX0_pay_45 (by decide) ?_
        refine a_cVt (pc := 46) (c_need0 (by exact hx) _) sX0_100_0 dX0_pay_46 (recv_obj (t := 0) rfl (hx.s 30 rfl) (by decide) (hx.n (by decide))) rfl rfl (by decide) (Nat.le_of_ble_eq_true rfl) ?_
        refine a_catch1 (t := 1) rfl (by decide) (by decide) (by decide) rfl q124 (hx.s 31 rfl) (by decide) (hx.n (by decide)) ?_
        refine a_astore (pc := 152) dX0_pay_152 (by decide) rfl ?_
        refine a_aload_n (pc := 154) (i := 0) dX0_pay_154 rfl rfl ?_
        refine a_aload (pc := 155) dX0_pay_155 rfl ?_
        refine a_cVi (pc := 157) (c_finds (by exact hx) 1 (by decide)) sX0_109_0 dX0_pay_157 (recv_obj (t := 0) rfl (hx.s 30 rfl) (by decide) (hx.n (by decide))) rfl rfl (by decide) (Nat.le_of_ble_eq_true rfl) ?_
        exact a_iret (pc := 160) dX0_pay_160 rfl (by (first | rw [show aPay σ p w v = aErr σ 1 by grind [aPay, bI]] | rw [show aPay σ (nI j) w v = aErr σ 1 by grind [aPay, bI]] | rw [show aPay σ (nI j) (nI i) v = aErr σ 1 by grind [aPay, bI]]); exact eI_of rfl (PX.of sm (PX.err (by decide) hx rx)))
      · skip
        refine a_iload_n (pc := 29) (i := 3) dX0_pay_29 rfl rfl ?_
        refine a_iconst (pc := 30) (v := 1) dX0_pay_30 (by decide) ?_
        refine a_sipush (pc := 31) (v := 9999) dX0_pay_31 (by decide) ?_
        refine a_cSi (pc := 34) (c_in _ _ _) sX0_85 dX0_pay_34 rfl rfl (by decide) (Nat.le_of_ble_eq_true rfl) ?_
        refine a_if_eq (pc := 37) (tgt := 44) dX0_pay_37 (by decide) (fun c37 => ?_) (fun c37 => ?_)
        · skip
          refine a_iconst (pc := 44) (v := 0) dX0_pay_44 (by decide) ?_
          refine a_iconst (pc := 45) (v := 1) dX0_pay_45 (by decide) ?_
          refine a_cVt (pc := 46) (c_need0 (by exact hx) _) sX0_100_0 dX0_pay_46 (recv_obj (t := 0) rfl (hx.s 30 rfl) (by decide) (hx.n (by decide))) rfl rfl (by decide) (Nat.le_of_ble_eq_true rfl) ?_
          refine a_catch1 (t := 1) rfl (by decide) (by decide) (by decide) rfl q124 (hx.s 31 rfl) (by decide) (hx.n (by decide)) ?_
          refine a_astore (pc := 152) dX0_pay_152 (by decide) rfl ?_
          refine a_aload_n (pc := 154) (i := 0) dX0_pay_154 rfl rfl ?_
          refine a_aload (pc := 155) dX0_pay_155 rfl ?_
          refine a_cVi (pc := 157) (c_finds (by exact hx) 1 (by decide)) sX0_109_0 dX0_pay_157 (recv_obj (t := 0) rfl (hx.s 30 rfl) (by decide) (hx.n (by decide))) rfl rfl (by decide) (Nat.le_of_ble_eq_true rfl) ?_
          exact a_iret (pc := 160) dX0_pay_160 rfl (by (first | rw [show aPay σ p w v = aErr σ 1 by grind [aPay, bI]] | rw [show aPay σ (nI j) w v = aErr σ 1 by grind [aPay, bI]] | rw [show aPay σ (nI j) (nI i) v = aErr σ 1 by grind [aPay, bI]]); exact eI_of rfl (PX.of sm (PX.err (by decide) hx rx)))
        · skip
          refine a_iconst (pc := 40) (v := 1) dX0_pay_40 (by decide) ?_
          refine a_goto (pc := 41) (tgt := 45) dX0_pay_41 (by decide) ?_
          refine a_iconst (pc := 45) (v := 1) dX0_pay_45 (by decide) ?_
          refine a_cVv (pc := 46) (c_need1 (by exact hx) _) sX0_100_0 dX0_pay_46 (recv_obj (t := 0) rfl (hx.s 30 rfl) (by decide) (hx.n (by decide))) rfl rfl (by decide) (Nat.le_of_ble_eq_true rfl) ?_
          obtain ⟨i, hi, rfl⟩ := nI_ex (bI_n.mp c13) (n := 7) rfl
          have ti : tn (nI i) = i := tn_nI (by omega)
          refine a_aload_n (pc := 49) (i := 0) dX0_pay_49 rfl rfl ?_
          refine a_getR (pc := 50) dX0_pay_50 fX0_46_0 rfl (hx.s 30 rfl) (by decide) (hx.n (by decide)) (hx.r 30 1 32 rfl) ?_
          refine a_getR (pc := 53) dX0_pay_53 fX0_131_2 rfl (hx.s 32 rfl) (by decide) (hx.n (by decide)) (hx.r 32 9 38 rfl) ?_
          refine a_iload_n (pc := 56) (i := 1) dX0_pay_56 rfl rfl ?_
          refine a_ialdN (pc := 57) dX0_pay_57 (hx.s 38 rfl) (by decide) (hx.n (by decide)) (k := j) rfl ⟨hj6, by decide⟩ ?_
          refine a_istore (pc := 58) dX0_pay_58 (by decide) rfl ?_
          refine a_aload_n (pc := 60) (i := 0) dX0_pay_60 rfl rfl ?_
          refine a_join 84 (bI (σ.1 9 j = 0 ∧ σ.1 7 j ≠ -1)) ?_ (fun hJ61 => ?_)
          · skip
            refine a_iconst (pc := 84) (v := 3) dX0_pay_84 (by decide) ?_
            refine a_bs1 (fun hP85 => ?_) (fun hP85 => ?_)
            · skip
              refine a_cVv (pc := 85) (c_need1 (by exact hx) _) sX0_100_0 dX0_pay_85 (recv_obj (t := 0) rfl (hx.s 30 rfl) (by decide) (hx.n (by decide))) rfl rfl (by decide) (Nat.le_of_ble_eq_true rfl) ?_
              have hy := wf.1.wN j hj6
              obtain ⟨a, ha, ea⟩ : upto 7 (σ.1 7 j) := by grind
              have ea2 : gI h 38 j = nI a := en.trans ea
              have ta : tn (σ.1 7 j) = a := by rw [ea]; exact tn_nI (by omega)
              have eo : gI h 35 (8 * a + i) = σ.1 2 (8 * a + i) := rx.1.iO _ (by omega)
              rw [ea2]
              refine a_aload_n (pc := 88) (i := 0) dX0_pay_88 rfl rfl ?_
              refine a_join 113 (bI (v ≤ σ.1 2 (8 * a + i))) ?_ (fun hJ89 => ?_)
              · skip
                refine a_iconst (pc := 113) (v := 3) dX0_pay_113 (by decide) ?_
                refine a_bs1 (fun hP114 => ?_) (fun hP114 => ?_)
                · skip
                  refine a_cVv (pc := 114) (c_need1 (by exact hx) _) sX0_100_0 dX0_pay_114 (recv_obj (t := 0) rfl (hx.s 30 rfl) (by decide) (hx.n (by decide))) rfl rfl (by decide) (Nat.le_of_ble_eq_true rfl) ?_
                  refine a_aload_n (pc := 117) (i := 0) dX0_pay_117 rfl rfl ?_
                  refine a_getR (pc := 118) dX0_pay_118 fX0_46_0 rfl (hx.s 30 rfl) (by decide) (hx.n (by decide)) (hx.r 30 1 32 rfl) ?_
                  refine a_getR (pc := 121) dX0_pay_121 fX0_124_2 rfl (hx.s 32 rfl) (by decide) (hx.n (by decide)) (hx.r 32 2 35 rfl) ?_
                  refine a_bipush (pc := 124) (v := 8) dX0_pay_124 (by decide) ?_
                  refine a_iload (pc := 126) dX0_pay_126 rfl ?_
                  refine a_imul (pc := 128) dX0_pay_128 ?_
                  refine a_iload_n (pc := 129) (i := 2) dX0_pay_129 rfl rfl ?_
                  refine a_iadd (pc := 130) dX0_pay_130 ?_
                  rw [ix8]
                  refine a_dup2 (pc := 131) dX0_pay_131 rfl rfl ?_
                  refine a_ialdN (pc := 132) dX0_pay_132 (hx.s 35 rfl) (by decide) (hx.n (by decide)) (k := 8 * a + i) rfl ⟨by omega, by decide⟩ ?_
                  refine a_iload_n (pc := 133) (i := 3) dX0_pay_133 rfl rfl ?_
                  refine a_isub (pc := 134) dX0_pay_134 ?_
                  refine a_iastN (pc := 135) dX0_pay_135 (hx.s 35 rfl) (by decide) (hx.n (by decide)) (k := 8 * a + i) rfl ⟨by omega, by decide⟩ ?_
                  refine a_aload_n (pc := 136) (i := 0) dX0_pay_136 rfl rfl ?_
                  refine a_getR (pc := 137) dX0_pay_137 fX0_46_0 rfl (hx.s 30 rfl) (by decide) (hx.n (by decide)) (hx.r 30 1 32 rfl) ?_
                  refine a_getR (pc := 140) dX0_pay_140 fX0_124_2 rfl (hx.s 32 rfl) (by decide) (hx.n (by decide)) (hx.r 32 2 35 rfl) ?_
                  refine a_bipush (pc := 143) (v := 8) dX0_pay_143 (by decide) ?_
                  refine a_iload (pc := 145) dX0_pay_145 rfl ?_
                  refine a_imul (pc := 147) dX0_pay_147 ?_
                  refine a_iload_n (pc := 148) (i := 2) dX0_pay_148 rfl rfl ?_
                  refine a_iadd (pc := 149) dX0_pay_149 ?_
                  rw [ix8]
                  refine a_ialdN (pc := 150) dX0_pay_150 (hx.s 35 rfl) (by decide) (hx.n (by decide)) (k := 8 * a + i) rfl ⟨by omega, by decide⟩ ?_
                  exact a_iret (pc := 151) dX0_pay_151 rfl (by rw [show aPay σ (nI j) (nI i) v = (σ.1 2 (8 * a + i) - v, oD σ (up2 σ.1 2 (8 * a + i) (σ.1 2 (8 * a + i) - v))) by grind [aPay, bI]]; exact eI_of (by rw [gI_pI, if_pos rfl, if_pos rfl, eo]) (PX.of sm (PX.sm (S := [35]) hx ((Sm.rf _).pI 35 _ _) (rx.smD (S := [35]) ((Sm.rf _).pI 35 _ _) (by rw [eo]; exact RD.owed (by decide) rx.1 _ _)))))
                · skip
                  refine a_cVt (pc := 114) (c_need0 (by exact hx) _) sX0_100_0 dX0_pay_114 (recv_obj (t := 0) rfl (hx.s 30 rfl) (by decide) (hx.n (by decide))) rfl rfl (by decide) (Nat.le_of_ble_eq_true rfl) ?_
                  refine a_catch1 (t := 1) rfl (by decide) (by decide) (by decide) rfl q124 (hx.s 31 rfl) (by decide) (hx.n (by decide)) ?_
                  refine a_astore (pc := 152) dX0_pay_152 (by decide) rfl ?_
                  refine a_aload_n (pc := 154) (i := 0) dX0_pay_154 rfl rfl ?_
                  refine a_aload (pc := 155) dX0_pay_155 rfl ?_
                  refine a_cVi (pc := 157) (c_finds (by exact hx) 3 (by decide)) sX0_109_0 dX0_pay_157 (recv_obj (t := 0) rfl (hx.s 30 rfl) (by decide) (hx.n (by decide))) rfl rfl (by decide) (Nat.le_of_ble_eq_true rfl) ?_
                  exact a_iret (pc := 160) dX0_pay_160 rfl (by (first | rw [show aPay σ p w v = aErr σ 3 by grind [aPay, bI]] | rw [show aPay σ (nI j) w v = aErr σ 3 by grind [aPay, bI]] | rw [show aPay σ (nI j) (nI i) v = aErr σ 3 by grind [aPay, bI]]); exact eI_of rfl (PX.of sm (PX.err (by decide) hx rx)))
              · skip
                refine a_aload_n (pc := 89) (i := 0) dX0_pay_89 rfl rfl ?_
                refine a_getR (pc := 90) dX0_pay_90 fX0_46_0 rfl (hx.s 30 rfl) (by decide) (hx.n (by decide)) (hx.r 30 1 32 rfl) ?_
                refine a_getR (pc := 93) dX0_pay_93 fX0_124_2 rfl (hx.s 32 rfl) (by decide) (hx.n (by decide)) (hx.r 32 2 35 rfl) ?_
                refine a_bipush (pc := 96) (v := 8) dX0_pay_96 (by decide) ?_
                refine a_iload (pc := 98) dX0_pay_98 rfl ?_
                refine a_imul (pc := 100) dX0_pay_100 ?_
                refine a_iload_n (pc := 101) (i := 2) dX0_pay_101 rfl rfl ?_
                refine a_iadd (pc := 102) dX0_pay_102 ?_
                rw [ix8]
                refine a_ialdN (pc := 103) dX0_pay_103 (hx.s 35 rfl) (by decide) (hx.n (by decide)) (k := 8 * a + i) rfl ⟨by omega, by decide⟩ ?_
                refine a_iload_n (pc := 104) (i := 3) dX0_pay_104 rfl rfl ?_
                refine a_icmp_lt (pc := 105) (tgt := 112) dX0_pay_105 (by decide) (fun c105 => ?_) (fun c105 => ?_)
                · skip
                  refine a_iconst (pc := 112) (v := 0) dX0_pay_112 (by decide) ?_
                  exact hJ89 _ (by rw [eo] at c105; first | exact (bI_t (Int32.not_lt.mp c105)).symm | exact (bI_f (Int32.not_le.mpr c105)).symm)
                · skip
                  refine a_iconst (pc := 108) (v := 1) dX0_pay_108 (by decide) ?_
                  refine a_goto (pc := 109) (tgt := 113) dX0_pay_109 (by decide) ?_
                  exact hJ89 _ (by rw [eo] at c105; first | exact (bI_t (Int32.not_lt.mp c105)).symm | exact (bI_f (Int32.not_le.mpr c105)).symm)
            · skip
              refine a_cVt (pc := 85) (c_need0 (by exact hx) _) sX0_100_0 dX0_pay_85 (recv_obj (t := 0) rfl (hx.s 30 rfl) (by decide) (hx.n (by decide))) rfl rfl (by decide) (Nat.le_of_ble_eq_true rfl) ?_
              refine a_catch1 (t := 1) rfl (by decide) (by decide) (by decide) rfl q124 (hx.s 31 rfl) (by decide) (hx.n (by decide)) ?_
              refine a_astore (pc := 152) dX0_pay_152 (by decide) rfl ?_
              refine a_aload_n (pc := 154) (i := 0) dX0_pay_154 rfl rfl ?_
              refine a_aload (pc := 155) dX0_pay_155 rfl ?_
              refine a_cVi (pc := 157) (c_finds (by exact hx) 3 (by decide)) sX0_109_0 dX0_pay_157 (recv_obj (t := 0) rfl (hx.s 30 rfl) (by decide) (hx.n (by decide))) rfl rfl (by decide) (Nat.le_of_ble_eq_true rfl) ?_
              exact a_iret (pc := 160) dX0_pay_160 rfl (by (first | rw [show aPay σ p w v = aErr σ 3 by grind [aPay, bI]] | rw [show aPay σ (nI j) w v = aErr σ 3 by grind [aPay, bI]] | rw [show aPay σ (nI j) (nI i) v = aErr σ 3 by grind [aPay, bI]]); exact eI_of rfl (PX.of sm (PX.err (by decide) hx rx)))
          · skip
            refine a_aload_n (pc := 61) (i := 0) dX0_pay_61 rfl rfl ?_
            refine a_getR (pc := 62) dX0_pay_62 fX0_46_0 rfl (hx.s 30 rfl) (by decide) (hx.n (by decide)) (hx.r 30 1 32 rfl) ?_
            refine a_getR (pc := 65) dX0_pay_65 fX0_127_2 rfl (hx.s 32 rfl) (by decide) (hx.n (by decide)) (hx.r 32 11 40 rfl) ?_
            refine a_iload_n (pc := 68) (i := 1) dX0_pay_68 rfl rfl ?_
            refine a_zaldN (pc := 69) dX0_pay_69 (hx.s 40 rfl) (by decide) (hx.n (by decide)) (k := j) rfl ⟨hj6, by decide⟩ ?_
            refine a_if_ne (pc := 70) (tgt := 83) dX0_pay_70 (by decide) (fun c70 => ?_) (fun c70 => ?_)
            · skip
              refine a_iconst (pc := 83) (v := 0) dX0_pay_83 (by decide) ?_
              exact hJ61 _ (by grind [bI])
            · skip
              refine a_iload (pc := 73) dX0_pay_73 rfl ?_
              refine a_iconst (pc := 75) (v := (-1)) dX0_pay_75 (by decide) ?_
              refine a_icmp_eq (pc := 76) (tgt := 83) dX0_pay_76 (by decide) (fun c76 => ?_) (fun c76 => ?_)
              · skip
                refine a_iconst (pc := 83) (v := 0) dX0_pay_83 (by decide) ?_
                exact hJ61 _ (by grind [bI])
              · skip
                refine a_iconst (pc := 79) (v := 1) dX0_pay_79 (by decide) ?_
                refine a_goto (pc := 80) (tgt := 84) dX0_pay_80 (by decide) ?_
                exact hJ61 _ (by grind [bI])
theorem c_mustGo1 {g : Gl} {h : AH} (hx : Fx h) {D : De} (rd : RD h 32 D) (n m : Int32) (h1 : 1 ≤ n ∧ n ≤ m) (h2 : D 3 2 + n ≤ 9999 ∧ D 3 1 + n ≤ 99999) : AM g 3 mX0_mustGo [.ref 30, .int n, .int m] h (rV h) := by
  refine AM.of (by decide) (Nat.le_of_ble_eq_true rfl) ?_
  show AW g mX0_mustGo 3 _ 0 [some (.ref 30), some (.int n), some (.int m)] [] h
  refine a_aload_n (pc := 0) (i := 0) dX0_mustGo_0 rfl rfl ?_
  refine a_iload_n (pc := 1) (i := 1) dX0_mustGo_1 rfl rfl ?_
  refine a_iconst (pc := 2) (v := 1) dX0_mustGo_2 (by decide) ?_
  refine a_iload_n (pc := 3) (i := 2) dX0_mustGo_3 rfl rfl ?_
  refine a_cSi (pc := 4) (c_in _ _ _) sX0_85 dX0_mustGo_4 rfl rfl (by decide) (Nat.le_of_ble_eq_true rfl) ?_
  rw [bI_t h1]
  refine a_iconst (pc := 7) (v := 1) dX0_mustGo_7 (by decide) ?_
  refine a_cVv (pc := 8) (c_need1 hx _) sX0_100_0 dX0_mustGo_8 (recv_obj (t := 0) rfl (hx.s 30 rfl) (by decide) (hx.n (by decide))) rfl rfl (by decide) (Nat.le_of_ble_eq_true rfl) ?_
  refine a_aload_n (pc := 11) (i := 0) dX0_mustGo_11 rfl rfl ?_
  refine a_aload_n (pc := 12) (i := 0) dX0_mustGo_12 rfl rfl ?_
  refine a_getR (pc := 13) dX0_mustGo_13 fX0_46_0 rfl (hx.s 30 rfl) (by decide) (hx.n (by decide)) (hx.r 30 1 32 rfl) ?_
  refine a_getI (pc := 16) dX0_mustGo_16 fX0_232_2 rfl (hx.s 32 rfl) (by decide) (hx.n (by decide)) ?_
  refine a_iload_n (pc := 19) (i := 1) dX0_mustGo_19 rfl rfl ?_
  refine a_iadd (pc := 20) dX0_mustGo_20 ?_
  refine a_sipush (pc := 21) (v := 9999) dX0_mustGo_21 (by decide) ?_
  refine a_icmp_gt (pc := 24) (tgt := 45) dX0_mustGo_24 (by decide) (fun c24 => absurd c24 (by rw [show gI h 32 5 = _ from rd.iDay]; exact Int32.not_lt.mpr h2.1)) (fun _ => ?_)
  refine a_aload_n (pc := 27) (i := 0) dX0_mustGo_27 rfl rfl ?_
  refine a_getR (pc := 28) dX0_mustGo_28 fX0_46_0 rfl (hx.s 30 rfl) (by decide) (hx.n (by decide)) (hx.r 30 1 32 rfl) ?_
  refine a_getI (pc := 31) dX0_mustGo_31 fX0_224_2 rfl (hx.s 32 rfl) (by decide) (hx.n (by decide)) ?_
  refine a_iload_n (pc := 34) (i := 1) dX0_mustGo_34 rfl rfl ?_
  refine a_iadd (pc := 35) dX0_mustGo_35 ?_
  refine a_ldc (pc := 36) dX0_mustGo_36 q952 ?_
  refine a_icmp_gt (pc := 38) (tgt := 45) dX0_mustGo_38 (by decide) (fun c38 => absurd c38 (by rw [show gI h 32 4 = _ from rd.iHour]; exact Int32.not_lt.mpr h2.2)) (fun _ => ?_)
  refine a_iconst (pc := 41) (v := 1) dX0_mustGo_41 (by decide) ?_
  refine a_goto (pc := 42) (tgt := 46) dX0_mustGo_42 (by decide) ?_
  refine a_iconst (pc := 46) (v := 3) dX0_mustGo_46 (by decide) ?_
  refine a_cVv (pc := 47) (c_need1 hx _) sX0_100_0 dX0_mustGo_47 (recv_obj (t := 0) rfl (hx.s 30 rfl) (by decide) (hx.n (by decide))) rfl rfl (by decide) (Nat.le_of_ble_eq_true rfl) ?_
  exact a_vret (pc := 50) dX0_mustGo_50 rfl (rV_of rfl)
theorem c_mustGo0 {g : Gl} {h : AH} (hx : Fx h) (n m : Int32) (h1 : ¬ (1 ≤ n ∧ n ≤ m)) : AM g 3 mX0_mustGo [.ref 30, .int n, .int m] h (rT 31 (pI h 31 6 1)) := by
  refine AM.of (by decide) (Nat.le_of_ble_eq_true rfl) ?_
  show AW g mX0_mustGo 3 _ 0 [some (.ref 30), some (.int n), some (.int m)] [] h
  refine a_aload_n (pc := 0) (i := 0) dX0_mustGo_0 rfl rfl ?_
  refine a_iload_n (pc := 1) (i := 1) dX0_mustGo_1 rfl rfl ?_
  refine a_iconst (pc := 2) (v := 1) dX0_mustGo_2 (by decide) ?_
  refine a_iload_n (pc := 3) (i := 2) dX0_mustGo_3 rfl rfl ?_
  refine a_cSi (pc := 4) (c_in _ _ _) sX0_85 dX0_mustGo_4 rfl rfl (by decide) (Nat.le_of_ble_eq_true rfl) ?_
  rw [bI_f h1]
  refine a_iconst (pc := 7) (v := 1) dX0_mustGo_7 (by decide) ?_
  refine a_cVt (pc := 8) (c_need0 hx _) sX0_100_0 dX0_mustGo_8 (recv_obj (t := 0) rfl (hx.s 30 rfl) (by decide) (hx.n (by decide))) rfl rfl (by decide) (Nat.le_of_ble_eq_true rfl) ?_
  exact a_leave rfl (rT_of rfl rfl)
theorem c_mustGo3 {g : Gl} {h : AH} (hx : Fx h) {D : De} (rd : RD h 32 D) (n m : Int32) (h1 : 1 ≤ n ∧ n ≤ m) (h2 : ¬ (D 3 2 + n ≤ 9999 ∧ D 3 1 + n ≤ 99999)) : AM g 3 mX0_mustGo [.ref 30, .int n, .int m] h (rT 31 (pI h 31 6 3)) := by
  refine AM.of (by decide) (Nat.le_of_ble_eq_true rfl) ?_
  show AW g mX0_mustGo 3 _ 0 [some (.ref 30), some (.int n), some (.int m)] [] h
  refine a_aload_n (pc := 0) (i := 0) dX0_mustGo_0 rfl rfl ?_
  refine a_iload_n (pc := 1) (i := 1) dX0_mustGo_1 rfl rfl ?_
  refine a_iconst (pc := 2) (v := 1) dX0_mustGo_2 (by decide) ?_
  refine a_iload_n (pc := 3) (i := 2) dX0_mustGo_3 rfl rfl ?_
  refine a_cSi (pc := 4) (c_in _ _ _) sX0_85 dX0_mustGo_4 rfl rfl (by decide) (Nat.le_of_ble_eq_true rfl) ?_
  rw [bI_t h1]
  refine a_iconst (pc := 7) (v := 1) dX0_mustGo_7 (by decide) ?_
  refine a_cVv (pc := 8) (c_need1 hx _) sX0_100_0 dX0_mustGo_8 (recv_obj (t := 0) rfl (hx.s 30 rfl) (by decide) (hx.n (by decide))) rfl rfl (by decide) (Nat.le_of_ble_eq_true rfl) ?_
  refine a_aload_n (pc := 11) (i := 0) dX0_mustGo_11 rfl rfl ?_
  refine a_aload_n (pc := 12) (i := 0) dX0_mustGo_12 rfl rfl ?_
  refine a_getR (pc := 13) dX0_mustGo_13 fX0_46_0 rfl (hx.s 30 rfl) (by decide) (hx.n (by decide)) (hx.r 30 1 32 rfl) ?_
  refine a_getI (pc := 16) dX0_mustGo_16 fX0_232_2 rfl (hx.s 32 rfl) (by decide) (hx.n (by decide)) ?_
  refine a_iload_n (pc := 19) (i := 1) dX0_mustGo_19 rfl rfl ?_
  refine a_iadd (pc := 20) dX0_mustGo_20 ?_
  refine a_sipush (pc := 21) (v := 9999) dX0_mustGo_21 (by decide) ?_
  refine a_icmp_gt (pc := 24) (tgt := 45) dX0_mustGo_24 (by decide) (fun c24 => ?_) (fun c24 => ?_)
  · skip
    refine a_iconst (pc := 45) (v := 0) dX0_mustGo_45 (by decide) ?_
    refine a_iconst (pc := 46) (v := 3) dX0_mustGo_46 (by decide) ?_
    refine a_cVt (pc := 47) (c_need0 hx _) sX0_100_0 dX0_mustGo_47 (recv_obj (t := 0) rfl (hx.s 30 rfl) (by decide) (hx.n (by decide))) rfl rfl (by decide) (Nat.le_of_ble_eq_true rfl) ?_
    exact a_leave rfl (rT_of rfl rfl)
  · skip
    refine a_aload_n (pc := 27) (i := 0) dX0_mustGo_27 rfl rfl ?_
    refine a_getR (pc := 28) dX0_mustGo_28 fX0_46_0 rfl (hx.s 30 rfl) (by decide) (hx.n (by decide)) (hx.r 30 1 32 rfl) ?_
    refine a_getI (pc := 31) dX0_mustGo_31 fX0_224_2 rfl (hx.s 32 rfl) (by decide) (hx.n (by decide)) ?_
    refine a_iload_n (pc := 34) (i := 1) dX0_mustGo_34 rfl rfl ?_
    refine a_iadd (pc := 35) dX0_mustGo_35 ?_
    refine a_ldc (pc := 36) dX0_mustGo_36 q952 ?_
    refine a_icmp_gt (pc := 38) (tgt := 45) dX0_mustGo_38 (by decide) (fun c38 => ?_) (fun c38 => ?_)
    · skip
      refine a_iconst (pc := 45) (v := 0) dX0_mustGo_45 (by decide) ?_
      refine a_iconst (pc := 46) (v := 3) dX0_mustGo_46 (by decide) ?_
      refine a_cVt (pc := 47) (c_need0 hx _) sX0_100_0 dX0_mustGo_47 (recv_obj (t := 0) rfl (hx.s 30 rfl) (by decide) (hx.n (by decide))) rfl rfl (by decide) (Nat.le_of_ble_eq_true rfl) ?_
      exact a_leave rfl (rT_of rfl rfl)
    · skip
      exact absurd ⟨by rw [← rd.iDay]; exact Int32.not_lt.mp c24, by rw [← rd.iHour]; exact Int32.not_lt.mp c38⟩ h2
def W0 (D : De) : Prop := upto 6 (D 3 3) ∧ ∀ p, p < 6 → D 9 p = 0 ∨ D 9 p = 1
theorem Wd.w0 {D : De} (w : Wd D) : W0 D := ⟨w.wMany, fun p hp => (w.wD p hp).imp (fun z => z.1) id⟩
theorem rainD_9 (D : De) (k a p : Nat) (ha : a ≠ 0) : rainD D k a p = D a p := by
  induction k with
  | zero => rfl
  | succ k ih =>
    unfold rainD at ih ⊢
    rw [itN_s]
    simp only [up2]
    rw [if_neg ha]
    exact ih
theorem bI_01 {P : Prop} [Decidable P] : bI P = 0 ∨ bI P = 1 := by
  by_cases h : P
  · exact Or.inr (bI_t h)
  · exact Or.inl (bI_f h)
theorem dayP_9 {D : De} (hd : ∀ p, p < 6 → D 9 p = 0 ∨ D 9 p = 1) (k p : Nat) (hp : p < 6) : dayP k D 9 p = 0 ∨ dayP k D 9 p = 1 := by
  induction k with
  | zero => exact hd p hp
  | succ k ih =>
    unfold dayP at ih ⊢
    rw [itN_s]
    split
    · simp only [thD, up2]
      split
      · split
        · exact bI_01
        · exact ih
      · rename_i hh; exact absurd trivial hh
    · exact ih
theorem dayD_w0 {D : De} (w : W0 D) : W0 (dayD D) := by
  refine ⟨?_, fun p hp => ?_⟩
  · show upto 6 (dayP (tn (D 3 3)) (rainD D 8) 3 3)
    rw [dayP_33, rainD_33]
    exact w.1
  · show dayP (tn (D 3 3)) (rainD D 8) 9 p = 0 ∨ dayP (tn (D 3 3)) (rainD D 8) 9 p = 1
    refine dayP_9 (fun p hp => ?_) _ p hp
    rw [rainD_9 _ _ _ _ (by decide)]
    exact w.2 p hp
theorem looD_w0 {D : De} (w : W0 D) : W0 (looD D) := dayD_w0 (D := up2 (drwD (drwD D)) 0 _ _) w
theorem x_days {g : Gl} {h : AH} {n : Nat} {σ : Sg} (hx : Fx h) (wf : Wf n σ) (rx : RX h σ) (n1 : Int32) : AM g 150 mX0_days [.ref 30, .int n1] h (eI (aDays σ n1).1 (fun h2 => PX h h2 (aDays σ n1).2)) := by
  refine AM.of (by decide) (Nat.le_of_ble_eq_true rfl) ?_
  show AW g mX0_days 150 _ 0 [some (.ref 30), some (.int n1)] [] h
  have sm : Sm [31, 45, 76] h h := Sm.rf h
  refine a_aload_n (pc := 0) (i := 0) dX0_days_0 rfl rfl ?_
  refine a_iload_n (pc := 1) (i := 1) dX0_days_1 rfl rfl ?_
  refine a_bipush (pc := 2) (v := 60) dX0_days_2 (by decide) ?_
  by_cases hI : 1 ≤ n1 ∧ n1 ≤ 60
  · skip
    by_cases hK : σ.1 3 2 + n1 ≤ 9999 ∧ σ.1 3 1 + n1 ≤ 99999
    · skip
      refine a_cVv (pc := 4) (c_mustGo1 hx rx.1 _ _ hI hK) sX0_235_0 dX0_days_4 (recv_obj (t := 0) rfl (hx.s 30 rfl) (by decide) (hx.n (by decide))) rfl rfl (by decide) (Nat.le_of_ble_eq_true rfl) ?_
      obtain ⟨m, hm, rfl⟩ := nI_ex (w := n1) (M := 60) ⟨by grind, hI.2⟩ (n := 60) rfl
      have tm : tn (nI m) = m := tn_nI (by omega)
      refine a_iconst (pc := 7) (v := 0) dX0_days_7 (by decide) ?_
      refine a_istore_n (pc := 8) (i := 2) dX0_days_8 rfl (by decide) rfl ?_
      refine AW.forP (fun k => [some (.ref 30), some (.int (nI m)), some (.int (nI k))]) (fun k hh => RD hh 32 (itN (fun _ D => dayD D) k σ.1) ∧ Sm [32, 33, 39, 40] h hh ∧ W0 (itN (fun _ D => dayD D) k σ.1)) m rfl ⟨rx.1, Sm.rf h, wf.1.w0⟩ (fun k h1 hk p1 ih9 => ?_) (fun h1 p1 => ?_)
      · skip
        show AW g mX0_days 150 _ 9 [some (.ref 30), some (.int (nI m)), some (.int (nI k))] _ (h1)
        have hx := hx.sm p1.2.1
        refine a_iload_n (pc := 9) (i := 2) dX0_days_9 rfl rfl ?_
        refine a_iload_n (pc := 10) (i := 1) dX0_days_10 rfl rfl ?_
        refine a_icmp_ge (pc := 11) (tgt := 27) dX0_days_11 (by decide) (fun c11 => absurd c11 (nI_ge hk (by omega))) (fun _ => ?_)
        refine a_aload_n (pc := 14) (i := 0) dX0_days_14 rfl rfl ?_
        refine a_getR (pc := 15) dX0_days_15 fX0_46_0 rfl (hx.s 30 rfl) (by decide) (hx.n (by decide)) (hx.r 30 1 32 rfl) ?_
        refine a_cVw (pc := 18) (c_passes32 hx p1.2.2.1 p1.1) sX0_238_2 dX0_days_18 (recv_obj (t := 2) rfl (hx.s 32 rfl) (by decide) (hx.n (by decide))) rfl rfl (by decide) (Nat.le_of_ble_eq_true rfl) (fun h3 e3 => ?_)
        refine a_iinc (pc := 21) (v := 1) dX0_days_21 rfl (by decide) (by decide) rfl ?_
        refine a_goto (pc := 24) (tgt := 9) dX0_days_24 (by decide) ?_
        rw [nI_1]
        exact ih9 _ ⟨e3.1, p1.2.1.tr e3.2, dayD_w0 p1.2.2⟩
      · skip
        show AW g mX0_days 150 _ 9 [some (.ref 30), some (.int (nI m)), some (.int (nI m))] _ (h1)
        have hx0 := hx
        have hx := hx.sm p1.2.1
        refine a_iload_n (pc := 9) (i := 2) dX0_days_9 rfl rfl ?_
        refine a_iload_n (pc := 10) (i := 1) dX0_days_10 rfl rfl ?_
        refine a_icmp_ge (pc := 11) (tgt := 27) dX0_days_11 (by decide) (fun _ => ?_) (fun c11 => absurd (nI_le (Nat.le_refl _) (by omega)) c11)
        refine a_aload_n (pc := 27) (i := 0) dX0_days_27 rfl rfl ?_
        refine a_getR (pc := 28) dX0_days_28 fX0_46_0 rfl (hx.s 30 rfl) (by decide) (hx.n (by decide)) (hx.r 30 1 32 rfl) ?_
        refine a_cVi (pc := 31) (c_dead32 hx p1.2.2.2 p1.2.2.1 p1.1) sX0_241_2 dX0_days_31 (recv_obj (t := 2) rfl (hx.s 32 rfl) (by decide) (hx.n (by decide))) rfl rfl (by decide) (Nat.le_of_ble_eq_true rfl) ?_
        exact a_iret (pc := 34) dX0_days_34 rfl (by rw [show aDays σ (nI m) = (deadD (itN (fun _ D => dayD D) m σ.1), oD σ (itN (fun _ D => dayD D) m σ.1)) by grind [aDays]]; exact eI_of rfl (PX.sm (S := [32, 33, 39, 40]) hx0 p1.2.1 (rx.smD p1.2.1 p1.1)))
    · skip
      refine a_cVt (pc := 4) (c_mustGo3 hx rx.1 _ _ hI hK) sX0_235_0 dX0_days_4 (recv_obj (t := 0) rfl (hx.s 30 rfl) (by decide) (hx.n (by decide))) rfl rfl (by decide) (Nat.le_of_ble_eq_true rfl) ?_
      refine a_catch1 (t := 1) rfl (by decide) (by decide) (by decide) rfl q124 (hx.s 31 rfl) (by decide) (hx.n (by decide)) ?_
      refine a_astore_n (pc := 35) (i := 2) dX0_days_35 rfl (by decide) rfl ?_
      refine a_aload_n (pc := 36) (i := 0) dX0_days_36 rfl rfl ?_
      refine a_aload_n (pc := 37) (i := 2) dX0_days_37 rfl rfl ?_
      refine a_cVi (pc := 38) (c_finds (by exact hx) 3 (by decide)) sX0_109_0 dX0_days_38 (recv_obj (t := 0) rfl (hx.s 30 rfl) (by decide) (hx.n (by decide))) rfl rfl (by decide) (Nat.le_of_ble_eq_true rfl) ?_
      exact a_iret (pc := 41) dX0_days_41 rfl (by (first | rw [show aDays σ n1 = aErr σ 3 by grind [aDays, bI]]); exact eI_of rfl (PX.of sm (PX.err (by decide) hx rx)))
  · skip
    refine a_cVt (pc := 4) (c_mustGo0 hx _ _ hI) sX0_235_0 dX0_days_4 (recv_obj (t := 0) rfl (hx.s 30 rfl) (by decide) (hx.n (by decide))) rfl rfl (by decide) (Nat.le_of_ble_eq_true rfl) ?_
    refine a_catch1 (t := 1) rfl (by decide) (by decide) (by decide) rfl q124 (hx.s 31 rfl) (by decide) (hx.n (by decide)) ?_
    refine a_astore_n (pc := 35) (i := 2) dX0_days_35 rfl (by decide) rfl ?_
    refine a_aload_n (pc := 36) (i := 0) dX0_days_36 rfl rfl ?_
    refine a_aload_n (pc := 37) (i := 2) dX0_days_37 rfl rfl ?_
    refine a_cVi (pc := 38) (c_finds (by exact hx) 1 (by decide)) sX0_109_0 dX0_days_38 (recv_obj (t := 0) rfl (hx.s 30 rfl) (by decide) (hx.n (by decide))) rfl rfl (by decide) (Nat.le_of_ble_eq_true rfl) ?_
    exact a_iret (pc := 41) dX0_days_41 rfl (by (first | rw [show aDays σ n1 = aErr σ 1 by grind [aDays, bI]]); exact eI_of rfl (PX.of sm (PX.err (by decide) hx rx)))
theorem x_loose {g : Gl} {h : AH} {n : Nat} {σ : Sg} (hx : Fx h) (wf : Wf n σ) (rx : RX h σ) (n1 : Int32) : AM g 150 mX0_loose [.ref 30, .int n1] h (eI (aLoose σ n1).1 (fun h2 => PX h h2 (aLoose σ n1).2)) := by
  refine AM.of (by decide) (Nat.le_of_ble_eq_true rfl) ?_
  show AW g mX0_loose 150 _ 0 [some (.ref 30), some (.int n1)] [] h
  have sm : Sm [31, 45, 76] h h := Sm.rf h
  refine a_aload_n (pc := 0) (i := 0) dX0_loose_0 rfl rfl ?_
  refine a_iload_n (pc := 1) (i := 1) dX0_loose_1 rfl rfl ?_
  refine a_bipush (pc := 2) (v := 40) dX0_loose_2 (by decide) ?_
  by_cases hI : 1 ≤ n1 ∧ n1 ≤ 40
  · skip
    by_cases hK : σ.1 3 2 + n1 ≤ 9999 ∧ σ.1 3 1 + n1 ≤ 99999
    · skip
      refine a_cVv (pc := 4) (c_mustGo1 hx rx.1 _ _ hI hK) sX0_235_0 dX0_loose_4 (recv_obj (t := 0) rfl (hx.s 30 rfl) (by decide) (hx.n (by decide))) rfl rfl (by decide) (Nat.le_of_ble_eq_true rfl) ?_
      obtain ⟨m, hm, rfl⟩ := nI_ex (w := n1) (M := 40) ⟨by grind, hI.2⟩ (n := 40) rfl
      have tm : tn (nI m) = m := tn_nI (by omega)
      refine a_iconst (pc := 7) (v := 0) dX0_loose_7 (by decide) ?_
      refine a_istore_n (pc := 8) (i := 2) dX0_loose_8 rfl (by decide) rfl ?_
      refine AW.forP (fun k => [some (.ref 30), some (.int (nI m)), some (.int (nI k))]) (fun k hh => RD hh 32 (itN (fun _ D => looD D) k σ.1) ∧ Sm [32, 33, 39, 40] h hh ∧ W0 (itN (fun _ D => looD D) k σ.1)) m rfl ⟨rx.1, Sm.rf h, wf.1.w0⟩ (fun k h1 hk p1 ih9 => ?_) (fun h1 p1 => ?_)
      · skip
        show AW g mX0_loose 150 _ 9 [some (.ref 30), some (.int (nI m)), some (.int (nI k))] _ (h1)
        have hx := hx.sm p1.2.1
        refine a_iload_n (pc := 9) (i := 2) dX0_loose_9 rfl rfl ?_
        refine a_iload_n (pc := 10) (i := 1) dX0_loose_10 rfl rfl ?_
        refine a_icmp_ge (pc := 11) (tgt := 27) dX0_loose_11 (by decide) (fun c11 => absurd c11 (nI_ge hk (by omega))) (fun _ => ?_)
        refine a_aload_n (pc := 14) (i := 0) dX0_loose_14 rfl rfl ?_
        refine a_getR (pc := 15) dX0_loose_15 fX0_46_0 rfl (hx.s 30 rfl) (by decide) (hx.n (by decide)) (hx.r 30 1 32 rfl) ?_
        refine a_cVw (pc := 18) (c_goesLoose hx p1.2.2.1 p1.1) sX0_244_2 dX0_loose_18 (recv_obj (t := 2) rfl (hx.s 32 rfl) (by decide) (hx.n (by decide))) rfl rfl (by decide) (Nat.le_of_ble_eq_true rfl) (fun h3 e3 => ?_)
        refine a_iinc (pc := 21) (v := 1) dX0_loose_21 rfl (by decide) (by decide) rfl ?_
        refine a_goto (pc := 24) (tgt := 9) dX0_loose_24 (by decide) ?_
        rw [nI_1]
        exact ih9 _ ⟨e3.1, p1.2.1.tr e3.2, looD_w0 p1.2.2⟩
      · skip
        show AW g mX0_loose 150 _ 9 [some (.ref 30), some (.int (nI m)), some (.int (nI m))] _ (h1)
        have hx0 := hx
        have hx := hx.sm p1.2.1
        refine a_iload_n (pc := 9) (i := 2) dX0_loose_9 rfl rfl ?_
        refine a_iload_n (pc := 10) (i := 1) dX0_loose_10 rfl rfl ?_
        refine a_icmp_ge (pc := 11) (tgt := 27) dX0_loose_11 (by decide) (fun _ => ?_) (fun c11 => absurd (nI_le (Nat.le_refl _) (by omega)) c11)
        refine a_aload_n (pc := 27) (i := 0) dX0_loose_27 rfl rfl ?_
        refine a_getR (pc := 28) dX0_loose_28 fX0_46_0 rfl (hx.s 30 rfl) (by decide) (hx.n (by decide)) (hx.r 30 1 32 rfl) ?_
        refine a_cVi (pc := 31) (c_dead32 hx p1.2.2.2 p1.2.2.1 p1.1) sX0_241_2 dX0_loose_31 (recv_obj (t := 2) rfl (hx.s 32 rfl) (by decide) (hx.n (by decide))) rfl rfl (by decide) (Nat.le_of_ble_eq_true rfl) ?_
        exact a_iret (pc := 34) dX0_loose_34 rfl (by rw [show aLoose σ (nI m) = (deadD (itN (fun _ D => looD D) m σ.1), oD σ (itN (fun _ D => looD D) m σ.1)) by grind [aLoose]]; exact eI_of rfl (PX.sm (S := [32, 33, 39, 40]) hx0 p1.2.1 (rx.smD p1.2.1 p1.1)))
    · skip
      refine a_cVt (pc := 4) (c_mustGo3 hx rx.1 _ _ hI hK) sX0_235_0 dX0_loose_4 (recv_obj (t := 0) rfl (hx.s 30 rfl) (by decide) (hx.n (by decide))) rfl rfl (by decide) (Nat.le_of_ble_eq_true rfl) ?_
      refine a_catch1 (t := 1) rfl (by decide) (by decide) (by decide) rfl q124 (hx.s 31 rfl) (by decide) (hx.n (by decide)) ?_
      refine a_astore_n (pc := 35) (i := 2) dX0_loose_35 rfl (by decide) rfl ?_
      refine a_aload_n (pc := 36) (i := 0) dX0_loose_36 rfl rfl ?_
      refine a_aload_n (pc := 37) (i := 2) dX0_loose_37 rfl rfl ?_
      refine a_cVi (pc := 38) (c_finds (by exact hx) 3 (by decide)) sX0_109_0 dX0_loose_38 (recv_obj (t := 0) rfl (hx.s 30 rfl) (by decide) (hx.n (by decide))) rfl rfl (by decide) (Nat.le_of_ble_eq_true rfl) ?_
      exact a_iret (pc := 41) dX0_loose_41 rfl (by (first | rw [show aLoose σ n1 = aErr σ 3 by grind [aLoose, bI]]); exact eI_of rfl (PX.of sm (PX.err (by decide) hx rx)))
  · skip
    refine a_cVt (pc := 4) (c_mustGo0 hx _ _ hI) sX0_235_0 dX0_loose_4 (recv_obj (t := 0) rfl (hx.s 30 rfl) (by decide) (hx.n (by decide))) rfl rfl (by decide) (Nat.le_of_ble_eq_true rfl) ?_
    refine a_catch1 (t := 1) rfl (by decide) (by decide) (by decide) rfl q124 (hx.s 31 rfl) (by decide) (hx.n (by decide)) ?_
    refine a_astore_n (pc := 35) (i := 2) dX0_loose_35 rfl (by decide) rfl ?_
    refine a_aload_n (pc := 36) (i := 0) dX0_loose_36 rfl rfl ?_
    refine a_aload_n (pc := 37) (i := 2) dX0_loose_37 rfl rfl ?_
    refine a_cVi (pc := 38) (c_finds (by exact hx) 1 (by decide)) sX0_109_0 dX0_loose_38 (recv_obj (t := 0) rfl (hx.s 30 rfl) (by decide) (hx.n (by decide))) rfl rfl (by decide) (Nat.le_of_ble_eq_true rfl) ?_
    exact a_iret (pc := 41) dX0_loose_41 rfl (by (first | rw [show aLoose σ n1 = aErr σ 1 by grind [aLoose, bI]]); exact eI_of rfl (PX.of sm (PX.err (by decide) hx rx)))
