/-! ===== the desert's own methods (printed by gen/p62.py) ===== -/
theorem RD.iW {h : AH} {b : Nat} {D : De} (rd : RD h b D) : ∀ w, w < 8 → gI h (b + 1) w = D 0 w := rd.1
theorem RD.iR {h : AH} {b : Nat} {D : De} (rd : RD h b D) : ∀ k, k < 64 → gI h (b + 2) k = D 1 k := rd.2.1
theorem RD.iO {h : AH} {b : Nat} {D : De} (rd : RD h b D) : ∀ k, k < 64 → gI h (b + 3) k = D 2 k := rd.2.2.1
theorem RD.iA {h : AH} {b : Nat} {D : De} (rd : RD h b D) : ∀ p, p < 6 → gI h (b + 5) p = D 6 p := rd.2.2.2.2.1
theorem RD.iN {h : AH} {b : Nat} {D : De} (rd : RD h b D) : ∀ p, p < 6 → gI h (b + 6) p = D 7 p := rd.2.2.2.2.2.1
theorem RD.iT {h : AH} {b : Nat} {D : De} (rd : RD h b D) : ∀ p, p < 6 → gI h (b + 7) p = D 8 p := rd.2.2.2.2.2.2.1
theorem RD.iD {h : AH} {b : Nat} {D : De} (rd : RD h b D) : ∀ p, p < 6 → gI h (b + 8) p = D 9 p := rd.2.2.2.2.2.2.2.1
theorem RD.iP {h : AH} {b : Nat} {D : De} (rd : RD h b D) : ∀ k, k < 50 → gI h (b + 10) k &&& 255 = D 10 k ∧ fits .byte (.int (gI h (b + 10) k)) = true := rd.2.2.2.2.2.2.2.2.1
theorem RD.iQ {h : AH} {b : Nat} {D : De} (rd : RD h b D) : ∀ k, k < 20 → gI h (b + 11) k = D 14 k := rd.2.2.2.2.2.2.2.2.2.1
theorem RD.iU {h : AH} {b : Nat} {D : De} (rd : RD h b D) : RDP h b D := rd.2.2.2.2.2.2.2.2.2.2.1
theorem RD.iX {h : AH} {b : Nat} {D : De} (rd : RD h b D) : RDT h b D := rd.2.2.2.2.2.2.2.2.2.2.2
theorem RD.iRain {h : AH} {b : Nat} {D : De} (rd : RD h b D) : gI h b 3 = D 3 0 := rd.2.2.2.1.1
theorem RD.iHour {h : AH} {b : Nat} {D : De} (rd : RD h b D) : gI h b 4 = D 3 1 := rd.2.2.2.1.2.1
theorem RD.iDay {h : AH} {b : Nat} {D : De} (rd : RD h b D) : gI h b 5 = D 3 2 := rd.2.2.2.1.2.2.1
theorem RD.iMany {h : AH} {b : Nat} {D : De} (rd : RD h b D) : gI h b 6 = D 3 3 := rd.2.2.2.1.2.2.2.1
theorem RD.iZ {h : AH} {b : Nat} {D : De} (rd : RD h b D) : gI h b 13 = D 3 4 := rd.2.2.2.1.2.2.2.2.1
theorem RD.iTaped {h : AH} {b : Nat} {D : De} (rd : RD h b D) : gI h b 15 = D 3 5 := rd.2.2.2.1.2.2.2.2.2.1
theorem RD.iWaits {h : AH} {b : Nat} {D : De} (rd : RD h b D) : gI h b 17 = D 3 6 := rd.2.2.2.1.2.2.2.2.2.2
theorem Wd.wW {D : De} (w : Wd D) : ∀ w, w < 8 → upto 99 (D 0 w) := w.1
theorem Wd.wR {D : De} (w : Wd D) : ∀ k, k < 64 → upto 20 (D 1 k) := w.2.1
theorem Wd.wO {D : De} (w : Wd D) : ∀ k, k < 64 → upto 9999 (D 2 k) := w.2.2.1
theorem Wd.wK {D : De} (w : Wd D) : ∀ p, p < 6 → upto 6 (D 4 p) := w.2.2.2.2.1
theorem Wd.wM {D : De} (w : Wd D) : ∀ p, p < 6 → upto 9 (D 5 p) := w.2.2.2.2.2.1
theorem Wd.wA {D : De} (w : Wd D) : ∀ p, p < 6 → upto 7 (D 6 p) := w.2.2.2.2.2.2.1
theorem Wd.wN {D : De} (w : Wd D) : ∀ p, p < 6 → D 7 p = -1 ∨ upto 7 (D 7 p) := w.2.2.2.2.2.2.2.1
theorem Wd.wD {D : De} (w : Wd D) : ∀ p, p < 6 → D 9 p = 0 ∧ upto 36 (D 8 p) ∨ D 9 p = 1 := w.2.2.2.2.2.2.2.2.1
theorem Wd.wP {D : De} (w : Wd D) : ∀ k, k < 50 → upto 255 (D 10 k) := w.2.2.2.2.2.2.2.2.2.1
theorem Wd.wL {D : De} (w : Wd D) : ∀ u, u < 2 → D 11 u = -1 ∨ upto 50 (D 11 u) := w.2.2.2.2.2.2.2.2.2.2.1
theorem Wd.wX {D : De} (w : Wd D) : ∀ u k, u < 2 → k < 50 → upto 255 (D (12 + u) k) := w.2.2.2.2.2.2.2.2.2.2.2
theorem Wd.wRain {D : De} (w : Wd D) : upto 9 (D 3 0) := w.2.2.2.1.1
theorem Wd.wHour {D : De} (w : Wd D) : upto 99999 (D 3 1) := w.2.2.2.1.2.1
theorem Wd.wDay {D : De} (w : Wd D) : upto 9999 (D 3 2) := w.2.2.2.1.2.2.1
theorem Wd.wMany {D : De} (w : Wd D) : upto 6 (D 3 3) := w.2.2.2.1.2.2.2.1
theorem Wd.wTaped {D : De} (w : Wd D) : upto 50 (D 3 5) := w.2.2.2.1.2.2.2.2.1
theorem Wd.wWaits {D : De} (w : Wd D) : upto 20 (D 3 6) := w.2.2.2.1.2.2.2.2.2
theorem Wd.many {D : De} (w : Wd D) : tn (D 3 3) ≤ 6 ∧ D 3 3 = nI (tn (D 3 3)) := up_tn w.wMany
def owesD (D : De) (nm : Int32) : Int32 := if nm = -1 then 0 else itN (fun w s => s + D 2 (8 * tn nm + w)) 8 0
def deadD (D : De) : Int32 := itN (fun p n => n + D 9 p) (tn (D 3 3)) 0
def thD (D : De) (p : Nat) (more : Int32) : De := up2 (up2 D 8 p (D 8 p + more)) 9 p (bI (limOf (D 4 p) (D 5 p) < D 8 p + more))
def min99 (v : Int32) : Int32 := if v < 99 then v else 99
def rainD (D : De) (k : Nat) : De := itN (fun w D => up2 D 0 w (min99 (D 0 w + D 3 0))) k D
def dayP (k : Nat) (D : De) : De := itN (fun p D => if D 9 p = 0 then thD D p 1 else D) k D
def dayD (D : De) : De := up2 (up2 (dayP (tn (D 3 3)) (rainD D 8)) 3 2 ((dayP (tn (D 3 3)) (rainD D 8)) 3 2 + 1)) 3 1 ((dayP (tn (D 3 3)) (rainD D 8)) 3 1 + 1)
def nxz (z : Int32) : Int32 := z * 1103515245 + 12345
def dwz (z : Int32) : Int32 := (z.toUInt32 >>> ((8 : Int32).toUInt32 &&& Int32.toUInt32 31)).toInt32
def drwD (D : De) : De := up2 D 3 4 (nxz (D 3 4))
def looD (D : De) : De := dayD (up2 (drwD (drwD D)) 0 (tn (dwz (nxz (D 3 4)) - dwz (nxz (D 3 4)) / 8 * 8)) (dwz (nxz (nxz (D 3 4))) - dwz (nxz (nxz (D 3 4))) / 20 * 20))
def driD (D : De) (p : Nat) : De := up2 (up2 (up2 D 0 (tn (D 6 p)) (D 0 (tn (D 6 p)) - needsOf D (D 4 p) (D 5 p) (D 8 p))) 8 p 0) 7 p (calledOf (D 4 p) (D 6 p) (D 7 p) (D 3 1))
def lenD (D : De) (p w : Nat) : Int32 := D 1 (8 * tn (D 6 p) + w)
def goeD (D : De) (p w : Nat) : De := up2 (thD (up2 D 3 1 (D 3 1 + lenD D p w)) p (parch D (lenD D p w) (D 5 p) (D 3 2))) 6 p (nI w)
theorem itN_s {α : Type} (f : Nat → α → α) (n : Nat) (a : α) : itN f (n + 1) a = f n (itN f n a) := rfl
theorem nI_n1 {n : Nat} (h : n < 2 ^ 31) : ¬ nI n = -1 := fun e => absurd (nI_pos h) (fun z => z (by rw [e]; decide))
theorem c_owesN {g : Gl} {h : AH} (hx : Fx h) {D : De} (rd : RD h 32 D) : AM g 1 mX2_owesOf [.ref 32, .int (-1)] h (rI (owesD D (-1)) h) := by
  refine AM.of (by decide) (Nat.le_of_ble_eq_true rfl) ?_
  show AW g mX2_owesOf 1 _ 0 [some (.ref 32), some (.int (-1))] [] h
  refine a_iconst (pc := 0) (v := 0) dX2_owesOf_0 (by decide) ?_
  refine a_istore_n (pc := 1) (i := 2) dX2_owesOf_1 rfl (by decide) rfl ?_
  refine a_iconst (pc := 2) (v := 0) dX2_owesOf_2 (by decide) ?_
  refine a_istore_n (pc := 3) (i := 3) dX2_owesOf_3 rfl (by decide) rfl ?_
  refine a_iload_n (pc := 4) (i := 3) dX2_owesOf_4 rfl rfl ?_
  refine a_bipush (pc := 5) (v := 8) dX2_owesOf_5 (by decide) ?_
  refine a_icmp_ge (pc := 7) (tgt := 35) dX2_owesOf_7 (by decide) (fun c7 => absurd c7 (by decide)) (fun _ => ?_)
  refine a_iload_n (pc := 10) (i := 1) dX2_owesOf_10 rfl rfl ?_
  refine a_iconst (pc := 11) (v := (-1)) dX2_owesOf_11 (by decide) ?_
  refine a_icmp_eq (pc := 12) (tgt := 35) dX2_owesOf_12 (by decide) (fun _ => ?_) (fun c12 => absurd (by decide) c12)
  refine a_iload_n (pc := 35) (i := 2) dX2_owesOf_35 rfl rfl ?_
  exact a_iret (pc := 36) dX2_owesOf_36 rfl (rI_of rfl rfl)
theorem c_owesJ {g : Gl} {h : AH} (hx : Fx h) {D : De} (rd : RD h 32 D) (j : Nat) (hj : j ≤ 7) : AM g 1 mX2_owesOf [.ref 32, .int (nI j)] h (rI (owesD D (nI j)) h) := by
  refine AM.of (by decide) (Nat.le_of_ble_eq_true rfl) ?_
  show AW g mX2_owesOf 1 _ 0 [some (.ref 32), some (.int (nI j))] [] h
  refine a_iconst (pc := 0) (v := 0) dX2_owesOf_0 (by decide) ?_
  refine a_istore_n (pc := 1) (i := 2) dX2_owesOf_1 rfl (by decide) rfl ?_
  refine a_iconst (pc := 2) (v := 0) dX2_owesOf_2 (by decide) ?_
  refine a_istore_n (pc := 3) (i := 3) dX2_owesOf_3 rfl (by decide) rfl ?_
  refine AW.for (fun k => [some (.ref 32), some (.int (nI j)), some (.int (itN (fun w s => s + D 2 (8 * j + w)) k 0)), some (.int (nI k))]) (fun k => h) 8 rfl rfl (fun k hk ih4 => ?_) ?_
  · skip
    show AW g mX2_owesOf 1 _ 4 [some (.ref 32), some (.int (nI j)), some (.int (itN (fun w s => s + D 2 (8 * j + w)) k 0)), some (.int (nI k))] _ (h)
    refine a_iload_n (pc := 4) (i := 3) dX2_owesOf_4 rfl rfl ?_
    refine a_bipush (pc := 5) (v := 8) dX2_owesOf_5 (by decide) ?_
    refine a_icmp_ge (pc := 7) (tgt := 35) dX2_owesOf_7 (by decide) (fun c7 => absurd c7 (nI_ge (b := 8) hk (by decide))) (fun _ => ?_)
    refine a_iload_n (pc := 10) (i := 1) dX2_owesOf_10 rfl rfl ?_
    refine a_iconst (pc := 11) (v := (-1)) dX2_owesOf_11 (by decide) ?_
    refine a_icmp_eq (pc := 12) (tgt := 35) dX2_owesOf_12 (by decide) (fun c12 => absurd c12 (nI_n1 (by omega))) (fun _ => ?_)
    refine a_iload_n (pc := 15) (i := 2) dX2_owesOf_15 rfl rfl ?_
    refine a_aload_n (pc := 16) (i := 0) dX2_owesOf_16 rfl rfl ?_
    refine a_getR (pc := 17) dX2_owesOf_17 fX2_18_2 rfl (hx.s 32 rfl) (by decide) (hx.n (by decide)) (hx.r 32 2 35 rfl) ?_
    refine a_bipush (pc := 20) (v := 8) dX2_owesOf_20 (by decide) ?_
    refine a_iload_n (pc := 22) (i := 1) dX2_owesOf_22 rfl rfl ?_
    refine a_imul (pc := 23) dX2_owesOf_23 ?_
    refine a_iload_n (pc := 24) (i := 3) dX2_owesOf_24 rfl rfl ?_
    refine a_iadd (pc := 25) dX2_owesOf_25 ?_
    refine a_ialdN (pc := 26) dX2_owesOf_26 (hx.s 35 rfl) (by decide) (hx.n (by decide)) (k := 8 * j + k) (ix8 j k) ⟨by omega, by decide⟩ ?_
    refine a_iadd (pc := 27) dX2_owesOf_27 ?_
    refine a_istore_n (pc := 28) (i := 2) dX2_owesOf_28 rfl (by decide) rfl ?_
    refine a_iinc (pc := 29) (v := 1) dX2_owesOf_29 rfl (by decide) (by decide) rfl ?_
    refine a_goto (pc := 32) (tgt := 4) dX2_owesOf_32 (by decide) ?_
    exact AW.lh ih4 (by rw [itN_s, nI_succ, rd.iO _ (by omega)]; rfl) rfl
  · skip
    show AW g mX2_owesOf 1 _ 4 [some (.ref 32), some (.int (nI j)), some (.int (itN (fun w s => s + D 2 (8 * j + w)) 8 0)), some (.int (nI 8))] _ (h)
    refine a_iload_n (pc := 4) (i := 3) dX2_owesOf_4 rfl rfl ?_
    refine a_bipush (pc := 5) (v := 8) dX2_owesOf_5 (by decide) ?_
    refine a_icmp_ge (pc := 7) (tgt := 35) dX2_owesOf_7 (by decide) (fun _ => ?_) (fun c7 => absurd (by decide) c7)
    refine a_iload_n (pc := 35) (i := 2) dX2_owesOf_35 rfl rfl ?_
    exact a_iret (pc := 36) dX2_owesOf_36 rfl (rI_of (by unfold owesD; rw [if_neg (nI_n1 (by omega)), tn_nI (by omega)]) rfl)
theorem c_owesOf {g : Gl} {h : AH} (hx : Fx h) {D : De} (rd : RD h 32 D) (x : Int32) (hxx : x = -1 ∨ upto 7 x) : AM g 1 mX2_owesOf [.ref 32, .int x] h (rI (owesD D x) h) := by
  rcases hxx with rfl | ⟨j, hj, rfl⟩
  · exact c_owesN hx rd
  · exact c_owesJ hx rd j hj
theorem c_dead32 {g : Gl} {h : AH} (hx : Fx h) {D : De} (wd : ∀ p, p < 6 → D 9 p = 0 ∨ D 9 p = 1) (hm : upto 6 (D 3 3)) (rd : RD h 32 D) : AM g 1 mX2_dead [.ref 32] h (rI (deadD D) h) := by
  refine AM.of (by decide) (Nat.le_of_ble_eq_true rfl) ?_
  show AW g mX2_dead 1 _ 0 [some (.ref 32)] [] h
  obtain ⟨n, hn, en⟩ := hm
  have tn3 : tn (D 3 3) = n := by rw [en]; exact tn_nI (by omega)
  refine a_iconst (pc := 0) (v := 0) dX2_dead_0 (by decide) ?_
  refine a_istore_n (pc := 1) (i := 1) dX2_dead_1 rfl (by decide) rfl ?_
  refine a_iconst (pc := 2) (v := 0) dX2_dead_2 (by decide) ?_
  refine a_istore_n (pc := 3) (i := 2) dX2_dead_3 rfl (by decide) rfl ?_
  refine AW.for (fun k => [some (.ref 32), some (.int (itN (fun p n => n + D 9 p) k 0)), some (.int (nI k))]) (fun k => h) n rfl rfl (fun k hk ih4 => ?_) ?_
  · skip
    show AW g mX2_dead 1 _ 4 [some (.ref 32), some (.int (itN (fun p n => n + D 9 p) k 0)), some (.int (nI k))] _ (h)
    refine a_iload_n (pc := 4) (i := 2) dX2_dead_4 rfl rfl ?_
    refine a_aload_n (pc := 5) (i := 0) dX2_dead_5 rfl rfl ?_
    refine a_getI (pc := 6) dX2_dead_6 fX2_79_2 rfl (hx.s 32 rfl) (by decide) (hx.n (by decide)) ?_
    refine a_icmp_ge (pc := 9) (tgt := 35) dX2_dead_9 (by decide) (fun c9 => absurd c9 (by rw [rd.iMany, en]; exact nI_ge hk (by omega))) (fun _ => ?_)
    refine a_iload_n (pc := 12) (i := 1) dX2_dead_12 rfl rfl ?_
    refine a_join 27 (D 9 k) ?_ (fun hJ13 => ?_)
    · skip
      refine a_iadd (pc := 27) dX2_dead_27 ?_
      refine a_istore_n (pc := 28) (i := 1) dX2_dead_28 rfl (by decide) rfl ?_
      refine a_iinc (pc := 29) (v := 1) dX2_dead_29 rfl (by decide) (by decide) rfl ?_
      refine a_goto (pc := 32) (tgt := 4) dX2_dead_32 (by decide) ?_
      exact AW.lh ih4 (by rw [itN_s, nI_succ]; rfl) rfl
    · skip
      refine a_aload_n (pc := 13) (i := 0) dX2_dead_13 rfl rfl ?_
      refine a_getR (pc := 14) dX2_dead_14 fX2_40_2 rfl (hx.s 32 rfl) (by decide) (hx.n (by decide)) (hx.r 32 11 40 rfl) ?_
      refine a_iload_n (pc := 17) (i := 2) dX2_dead_17 rfl rfl ?_
      refine a_zaldN (pc := 18) dX2_dead_18 (hx.s 40 rfl) (by decide) (hx.n (by decide)) (k := k) rfl ⟨by omega, by decide⟩ ?_
      refine a_if_eq (pc := 19) (tgt := 26) dX2_dead_19 (by decide) (fun c19 => ?_) (fun c19 => ?_)
      · skip
        refine a_iconst (pc := 26) (v := 0) dX2_dead_26 (by decide) ?_
        exact hJ13 _ (by have := wd k (by omega); rw [rd.iD k (by omega)] at c19; grind)
      · skip
        refine a_iconst (pc := 22) (v := 1) dX2_dead_22 (by decide) ?_
        refine a_goto (pc := 23) (tgt := 27) dX2_dead_23 (by decide) ?_
        exact hJ13 _ (by have := wd k (by omega); rw [rd.iD k (by omega)] at c19; grind)
  · skip
    show AW g mX2_dead 1 _ 4 [some (.ref 32), some (.int (itN (fun p n => n + D 9 p) n 0)), some (.int (nI n))] _ (h)
    refine a_iload_n (pc := 4) (i := 2) dX2_dead_4 rfl rfl ?_
    refine a_aload_n (pc := 5) (i := 0) dX2_dead_5 rfl rfl ?_
    refine a_getI (pc := 6) dX2_dead_6 fX2_79_2 rfl (hx.s 32 rfl) (by decide) (hx.n (by decide)) ?_
    refine a_icmp_ge (pc := 9) (tgt := 35) dX2_dead_9 (by decide) (fun _ => ?_) (fun c9 => absurd (by rw [rd.iMany, en]; exact nI_le (Nat.le_refl _) (by omega)) c9)
    refine a_iload_n (pc := 35) (i := 1) dX2_dead_35 rfl rfl ?_
    exact a_iret (pc := 36) dX2_dead_36 rfl (rI_of (by unfold deadD; rw [tn3]) rfl)
theorem c_thirsts32 {g : Gl} {h : AH} (hx : Fx h) {D : De} (rd : RD h 32 D) (p : Nat) (hp : p < 6) (hp2 : p < tn (D 3 3)) (more : Int32) : AM g 75 mX2_thirsts [.ref 32, .int (nI p), .int more] h (eV (fun h2 => RD h2 32 (thD D p more) ∧ Sm [39, 40] h h2)) := by
  refine AM.of (by decide) (Nat.le_of_ble_eq_true rfl) ?_
  show AW g mX2_thirsts 75 _ 0 [some (.ref 32), some (.int (nI p)), some (.int more)] [] h
  obtain ⟨r, er, pr⟩ := rd.iU.1 p hp2
  have e8 : gI h 39 p = D 8 p := rd.iT p hp
  refine a_aload_n (pc := 0) (i := 0) dX2_thirsts_0 rfl rfl ?_
  refine a_getR (pc := 1) dX2_thirsts_1 fX2_37_2 rfl (hx.s 32 rfl) (by decide) (hx.n (by decide)) (hx.r 32 10 39 rfl) ?_
  refine a_iload_n (pc := 4) (i := 1) dX2_thirsts_4 rfl rfl ?_
  refine a_dup2 (pc := 5) dX2_thirsts_5 rfl rfl ?_
  refine a_ialdN (pc := 6) dX2_thirsts_6 (hx.s 39 rfl) (by decide) (hx.n (by decide)) (k := p) rfl ⟨hp, by decide⟩ ?_
  refine a_iload_n (pc := 7) (i := 2) dX2_thirsts_7 rfl rfl ?_
  refine a_iadd (pc := 8) dX2_thirsts_8 ?_
  refine a_iastN (pc := 9) dX2_thirsts_9 (hx.s 39 rfl) (by decide) (hx.n (by decide)) (k := p) rfl ⟨hp, by decide⟩ ?_
  refine a_aload_n (pc := 10) (i := 0) dX2_thirsts_10 rfl rfl ?_
  refine a_getR (pc := 11) dX2_thirsts_11 fX2_40_2 rfl (hx.s 32 rfl) (by decide) (hx.n (by decide)) (hx.r 32 11 40 rfl) ?_
  refine a_iload_n (pc := 14) (i := 1) dX2_thirsts_14 rfl rfl ?_
  refine a_join 38 (bI (limOf (D 4 p) (D 5 p) < D 8 p + more)) ?_ (fun hJ15 => ?_)
  · skip
    refine a_zastN (pc := 38) dX2_thirsts_38 (hx.s 40 rfl) (by decide) (hx.n (by decide)) (k := p) rfl ⟨hp, by decide⟩ nar_bI ?_
    exact a_vret (pc := 39) dX2_thirsts_39 rfl (eV_of ⟨by rw [e8]; exact RD.dead (by decide) (RD.thirst (by decide) rd _ _) _ _, ((Sm.rf h).pI 39 _ _).pI 40 _ _⟩)
  · skip
    refine a_aload_n (pc := 15) (i := 0) dX2_thirsts_15 rfl rfl ?_
    refine a_getR (pc := 16) dX2_thirsts_16 fX2_37_2 rfl (hx.s 32 rfl) (by decide) (hx.n (by decide)) (hx.r 32 10 39 rfl) ?_
    refine a_iload_n (pc := 19) (i := 1) dX2_thirsts_19 rfl rfl ?_
    refine a_ialdN (pc := 20) dX2_thirsts_20 (hx.s 39 rfl) (by decide) (hx.n (by decide)) (k := p) rfl ⟨hp, by decide⟩ ?_
    refine a_aload_n (pc := 21) (i := 0) dX2_thirsts_21 rfl rfl ?_
    refine a_getR (pc := 22) dX2_thirsts_22 fX2_27_2 rfl (hx.s 32 rfl) (by decide) (hx.n (by decide)) (hx.r 32 7 36 rfl) ?_
    refine a_iload_n (pc := 25) (i := 1) dX2_thirsts_25 rfl rfl ?_
    refine a_aaldN (pc := 26) (v := .ref (r)) dX2_thirsts_26 (hx.s 36 rfl) (by decide) (hx.n (by decide)) (by decide) (by decide) (k := p) rfl ⟨hp, by decide⟩ (by rw [show gR (pI h 39 p (gI h 39 p + more)) 36 p = some r from er]; rfl) ?_
    refine d_limit_X2 (pc := 27) (pr.xt ((Xa.rf h).pI (by decide) _ _).t) rfl dX2_thirsts_27 (by decide) (Nat.le_of_ble_eq_true rfl) ?_
    refine a_icmp_le (pc := 30) (tgt := 37) dX2_thirsts_30 (by decide) (fun c30 => ?_) (fun c30 => ?_)
    · skip
      refine a_iconst (pc := 37) (v := 0) dX2_thirsts_37 (by decide) ?_
      exact hJ15 _ (by rw [gI_pI, if_pos rfl, if_pos rfl, e8] at c30; grind [bI])
    · skip
      refine a_iconst (pc := 33) (v := 1) dX2_thirsts_33 (by decide) ?_
      refine a_goto (pc := 34) (tgt := 38) dX2_thirsts_34 (by decide) ?_
      exact hJ15 _ (by rw [gI_pI, if_pos rfl, if_pos rfl, e8] at c30; grind [bI])
theorem rainD_33 (D : De) (k : Nat) : rainD D k 3 3 = D 3 3 := by
  induction k with
  | zero => rfl
  | succ k ih =>
    unfold rainD at ih ⊢
    rw [itN_s]
    exact ih
theorem dayP_33 (D : De) (k : Nat) : dayP k D 3 3 = D 3 3 := by
  induction k with
  | zero => rfl
  | succ k ih =>
    unfold dayP at ih ⊢
    rw [itN_s]
    split
    · exact ih
    · exact ih
theorem Sm.same {S : List Nat} {h h1 h2 : AH} (p : Sm S h h1) (q : Sm S h h2) : Sm S h1 h2 := ⟨q.1.trans p.1.symm, fun a ha k => (q.2 a ha k).trans (p.2 a ha k).symm⟩
theorem c_passes32 {g : Gl} {h : AH} (hx : Fx h) {D : De} (hm : upto 6 (D 3 3)) (rd : RD h 32 D) : AM g 76 mX2_passes [.ref 32] h (eV (fun h2 => RD h2 32 (dayD D) ∧ Sm [32, 33, 39, 40] h h2)) := by
  refine AM.of (by decide) (Nat.le_of_ble_eq_true rfl) ?_
  show AW g mX2_passes 76 _ 0 [some (.ref 32)] [] h
  obtain ⟨n, hn, en⟩ := hm
  have tn3 : tn (D 3 3) = n := by rw [en]; exact tn_nI (by omega)
  refine a_iconst (pc := 0) (v := 0) dX2_passes_0 (by decide) ?_
  refine a_istore_n (pc := 1) (i := 1) dX2_passes_1 rfl (by decide) rfl ?_
  refine AW.forP (fun k => [some (.ref 32), some (.int (nI k))]) (fun k hh => RD hh 32 (rainD D k) ∧ Sm [32, 33, 39, 40] h hh) 8 rfl ⟨rd, Sm.rf h⟩ (fun k h1 hk p1 ih2 => ?_) (fun h1 p1 => ?_)
  · skip
    show AW g mX2_passes 76 _ 2 [some (.ref 32), some (.int (nI k))] _ (h1)
    have hx := hx.sm p1.2
    refine a_iload_n (pc := 2) (i := 1) dX2_passes_2 rfl rfl ?_
    refine a_bipush (pc := 3) (v := 8) dX2_passes_3 (by decide) ?_
    refine a_icmp_ge (pc := 5) (tgt := 36) dX2_passes_5 (by decide) (fun c5 => absurd c5 (nI_ge (b := 8) hk (by decide))) (fun _ => ?_)
    refine a_aload_n (pc := 8) (i := 0) dX2_passes_8 rfl rfl ?_
    refine a_getR (pc := 9) dX2_passes_9 fX2_9_2 rfl (hx.s 32 rfl) (by decide) (hx.n (by decide)) (hx.r 32 0 33 rfl) ?_
    refine a_iload_n (pc := 12) (i := 1) dX2_passes_12 rfl rfl ?_
    refine a_bipush (pc := 13) (v := 99) dX2_passes_13 (by decide) ?_
    refine a_aload_n (pc := 15) (i := 0) dX2_passes_15 rfl rfl ?_
    refine a_getR (pc := 16) dX2_passes_16 fX2_9_2 rfl (hx.s 32 rfl) (by decide) (hx.n (by decide)) (hx.r 32 0 33 rfl) ?_
    refine a_iload_n (pc := 19) (i := 1) dX2_passes_19 rfl rfl ?_
    refine a_ialdN (pc := 20) dX2_passes_20 (hx.s 33 rfl) (by decide) (hx.n (by decide)) (k := k) rfl ⟨by omega, by decide⟩ ?_
    refine a_aload_n (pc := 21) (i := 0) dX2_passes_21 rfl rfl ?_
    refine a_getI (pc := 22) dX2_passes_22 fX2_21_2 rfl (hx.s 32 rfl) (by decide) (hx.n (by decide)) ?_
    refine a_iadd (pc := 25) dX2_passes_25 ?_
    refine a_cSi (pc := 26) (c_min _ _) sX2_88 dX2_passes_26 rfl rfl (by decide) (Nat.le_of_ble_eq_true rfl) ?_
    refine a_iastN (pc := 29) dX2_passes_29 (hx.s 33 rfl) (by decide) (hx.n (by decide)) (k := k) rfl ⟨by omega, by decide⟩ ?_
    refine a_iinc (pc := 30) (v := 1) dX2_passes_30 rfl (by decide) (by decide) rfl ?_
    refine a_goto (pc := 33) (tgt := 2) dX2_passes_33 (by decide) ?_
    rw [nI_1]
    refine ih2 _ ⟨?_, p1.2.pI 33 _ _⟩
    have q := RD.water (by decide) p1.1 k (min99 (gI h1 33 k + gI h1 32 3))
    have e1 := p1.1.iW k (by omega)
    have e2 := p1.1.iRain
    unfold rainD
    rw [itN_s]
    unfold rainD at q e1 e2
    have e3 : min99 (gI h1 33 k + gI h1 32 3) = (if gI h1 33 k + gI h1 32 3 < 99 then gI h1 33 k + gI h1 32 3 else 99) := rfl
    rw [← e3]
    rw [← show gI h1 33 k = _ from e1, ← show gI h1 32 3 = _ from e2]
    exact q
  · skip
    show AW g mX2_passes 76 _ 2 [some (.ref 32), some (.int (nI 8))] _ (h1)
    have hx := hx.sm p1.2
    refine a_iload_n (pc := 2) (i := 1) dX2_passes_2 rfl rfl ?_
    refine a_bipush (pc := 3) (v := 8) dX2_passes_3 (by decide) ?_
    refine a_icmp_ge (pc := 5) (tgt := 36) dX2_passes_5 (by decide) (fun _ => ?_) (fun c5 => absurd (by decide) c5)
    refine a_iconst (pc := 36) (v := 0) dX2_passes_36 (by decide) ?_
    refine a_istore_n (pc := 37) (i := 1) dX2_passes_37 rfl (by decide) rfl ?_
    refine AW.forP (fun k => [some (.ref 32), some (.int (nI k))]) (fun k hh => RD hh 32 (dayP k (rainD D 8)) ∧ Sm [32, 33, 39, 40] h hh) n rfl ⟨p1.1, p1.2⟩ (fun k h2 hk p2 ih38 => ?_) (fun h2 p2 => ?_)
    · skip
      show AW g mX2_passes 76 _ 38 [some (.ref 32), some (.int (nI k))] _ (h2)
      have hx := hx.sm (Sm.same p1.2 p2.2)
      refine a_iload_n (pc := 38) (i := 1) dX2_passes_38 rfl rfl ?_
      refine a_aload_n (pc := 39) (i := 0) dX2_passes_39 rfl rfl ?_
      refine a_getI (pc := 40) dX2_passes_40 fX2_79_2 rfl (hx.s 32 rfl) (by decide) (hx.n (by decide)) ?_
      refine a_icmp_ge (pc := 43) (tgt := 67) dX2_passes_43 (by decide) (fun c43 => absurd c43 (by rw [p2.1.iMany, dayP_33, rainD_33, en]; exact nI_ge hk (by omega))) (fun _ => ?_)
      refine a_aload_n (pc := 46) (i := 0) dX2_passes_46 rfl rfl ?_
      refine a_getR (pc := 47) dX2_passes_47 fX2_40_2 rfl (hx.s 32 rfl) (by decide) (hx.n (by decide)) (hx.r 32 11 40 rfl) ?_
      refine a_iload_n (pc := 50) (i := 1) dX2_passes_50 rfl rfl ?_
      refine a_zaldN (pc := 51) dX2_passes_51 (hx.s 40 rfl) (by decide) (hx.n (by decide)) (k := k) rfl ⟨by omega, by decide⟩ ?_
      refine a_if_ne (pc := 52) (tgt := 61) dX2_passes_52 (by decide) (fun c52 => ?_) (fun c52 => ?_)
      · skip
        refine a_iinc (pc := 61) (v := 1) dX2_passes_61 rfl (by decide) (by decide) rfl ?_
        refine a_goto (pc := 64) (tgt := 38) dX2_passes_64 (by decide) ?_
        rw [nI_1]
        refine ih38 _ ?_
        unfold dayP
        rw [itN_s]
        show RD _ 32 (if dayP k (rainD D 8) 9 k = 0 then thD (dayP k (rainD D 8)) k 1 else dayP k (rainD D 8)) ∧ _
        rw [show gI h2 40 k = _ from p2.1.iD k (by omega)] at c52
        rw [if_neg c52]
        exact p2
      · skip
        refine a_aload_n (pc := 55) (i := 0) dX2_passes_55 rfl rfl ?_
        refine a_iload_n (pc := 56) (i := 1) dX2_passes_56 rfl rfl ?_
        refine a_iconst (pc := 57) (v := 1) dX2_passes_57 (by decide) ?_
        refine a_cVw (pc := 58) (c_thirsts32 hx p2.1 k (by omega) (by rw [dayP_33, rainD_33, tn3]; exact hk) 1) sX2_135_2 dX2_passes_58 (recv_obj (t := 2) rfl (hx.s 32 rfl) (by decide) (hx.n (by decide))) rfl rfl (by decide) (Nat.le_of_ble_eq_true rfl) (fun h4 e4 => ?_)
        refine a_iinc (pc := 61) (v := 1) dX2_passes_61 rfl (by decide) (by decide) rfl ?_
        refine a_goto (pc := 64) (tgt := 38) dX2_passes_64 (by decide) ?_
        rw [nI_1]
        refine ih38 _ ?_
        unfold dayP
        rw [itN_s]
        show RD _ 32 (if dayP k (rainD D 8) 9 k = 0 then thD (dayP k (rainD D 8)) k 1 else dayP k (rainD D 8)) ∧ _
        rw [show gI h2 40 k = _ from p2.1.iD k (by omega)] at c52
        rw [if_pos c52]
        exact ⟨e4.1, p2.2.tr (e4.2.mono)⟩
    · skip
      show AW g mX2_passes 76 _ 38 [some (.ref 32), some (.int (nI n))] _ (h2)
      have hx := hx.sm (Sm.same p1.2 p2.2)
      refine a_iload_n (pc := 38) (i := 1) dX2_passes_38 rfl rfl ?_
      refine a_aload_n (pc := 39) (i := 0) dX2_passes_39 rfl rfl ?_
      refine a_getI (pc := 40) dX2_passes_40 fX2_79_2 rfl (hx.s 32 rfl) (by decide) (hx.n (by decide)) ?_
      refine a_icmp_ge (pc := 43) (tgt := 67) dX2_passes_43 (by decide) (fun _ => ?_) (fun c43 => absurd (by rw [p2.1.iMany, dayP_33, rainD_33, en]; exact nI_le (Nat.le_refl _) (by omega)) c43)
      refine a_aload_n (pc := 67) (i := 0) dX2_passes_67 rfl rfl ?_
      refine a_dup (pc := 68) dX2_passes_68 rfl ?_
      refine a_getI (pc := 69) dX2_passes_69 fX2_76_2 rfl (hx.s 32 rfl) (by decide) (hx.n (by decide)) ?_
      refine a_iconst (pc := 72) (v := 1) dX2_passes_72 (by decide) ?_
      refine a_iadd (pc := 73) dX2_passes_73 ?_
      refine a_putI (pc := 74) dX2_passes_74 fX2_76_2 (Or.inl rfl) rfl (hx.s 32 rfl) (by decide) (hx.n (by decide)) rfl rfl ?_
      refine a_aload_n (pc := 77) (i := 0) dX2_passes_77 rfl rfl ?_
      refine a_dup (pc := 78) dX2_passes_78 rfl ?_
      refine a_getI (pc := 79) dX2_passes_79 fX2_73_2 rfl (hx.s 32 rfl) (by decide) (hx.n (by decide)) ?_
      refine a_iconst (pc := 82) (v := 1) dX2_passes_82 (by decide) ?_
      refine a_iadd (pc := 83) dX2_passes_83 ?_
      refine a_putI (pc := 84) dX2_passes_84 fX2_73_2 (Or.inl rfl) rfl (hx.s 32 rfl) (by decide) (hx.n (by decide)) rfl rfl ?_
      exact a_vret (pc := 87) dX2_passes_87 rfl (eV_of ⟨by unfold dayD; rw [tn3, ← p2.1.iDay, ← p2.1.iHour]; exact RD.hour (by decide) (RD.day (by decide) p2.1 _) _, (p2.2.pI 32 _ _).pI 32 _ _⟩)
theorem c_dead60 {g : Gl} {h : AH} (hx : Fx h) {D : De} (wd : ∀ p, p < 6 → D 9 p = 0 ∨ D 9 p = 1) (hm : upto 6 (D 3 3)) (rd : RD h 60 D) : AM g 1 mX2_dead [.ref 60] h (rI (deadD D) h) := by
  refine AM.of (by decide) (Nat.le_of_ble_eq_true rfl) ?_
  show AW g mX2_dead 1 _ 0 [some (.ref 60)] [] h
  obtain ⟨n, hn, en⟩ := hm
  have tn3 : tn (D 3 3) = n := by rw [en]; exact tn_nI (by omega)
  refine a_iconst (pc := 0) (v := 0) dX2_dead_0 (by decide) ?_
  refine a_istore_n (pc := 1) (i := 1) dX2_dead_1 rfl (by decide) rfl ?_
  refine a_iconst (pc := 2) (v := 0) dX2_dead_2 (by decide) ?_
  refine a_istore_n (pc := 3) (i := 2) dX2_dead_3 rfl (by decide) rfl ?_
  refine AW.for (fun k => [some (.ref 60), some (.int (itN (fun p n => n + D 9 p) k 0)), some (.int (nI k))]) (fun k => h) n rfl rfl (fun k hk ih4 => ?_) ?_
  · skip
    show AW g mX2_dead 1 _ 4 [some (.ref 60), some (.int (itN (fun p n => n + D 9 p) k 0)), some (.int (nI k))] _ (h)
    refine a_iload_n (pc := 4) (i := 2) dX2_dead_4 rfl rfl ?_
    refine a_aload_n (pc := 5) (i := 0) dX2_dead_5 rfl rfl ?_
    refine a_getI (pc := 6) dX2_dead_6 fX2_79_2 rfl (hx.s 60 rfl) (by decide) (hx.n (by decide)) ?_
    refine a_icmp_ge (pc := 9) (tgt := 35) dX2_dead_9 (by decide) (fun c9 => absurd c9 (by rw [rd.iMany, en]; exact nI_ge hk (by omega))) (fun _ => ?_)
    refine a_iload_n (pc := 12) (i := 1) dX2_dead_12 rfl rfl ?_
    refine a_join 27 (D 9 k) ?_ (fun hJ13 => ?_)
    · skip
      refine a_iadd (pc := 27) dX2_dead_27 ?_
      refine a_istore_n (pc := 28) (i := 1) dX2_dead_28 rfl (by decide) rfl ?_
      refine a_iinc (pc := 29) (v := 1) dX2_dead_29 rfl (by decide) (by decide) rfl ?_
      refine a_goto (pc := 32) (tgt := 4) dX2_dead_32 (by decide) ?_
      exact AW.lh ih4 (by rw [itN_s, nI_succ]; rfl) rfl
    · skip
      refine a_aload_n (pc := 13) (i := 0) dX2_dead_13 rfl rfl ?_
      refine a_getR (pc := 14) dX2_dead_14 fX2_40_2 rfl (hx.s 60 rfl) (by decide) (hx.n (by decide)) (hx.r 60 11 68 rfl) ?_
      refine a_iload_n (pc := 17) (i := 2) dX2_dead_17 rfl rfl ?_
      refine a_zaldN (pc := 18) dX2_dead_18 (hx.s 68 rfl) (by decide) (hx.n (by decide)) (k := k) rfl ⟨by omega, by decide⟩ ?_
      refine a_if_eq (pc := 19) (tgt := 26) dX2_dead_19 (by decide) (fun c19 => ?_) (fun c19 => ?_)
      · skip
        refine a_iconst (pc := 26) (v := 0) dX2_dead_26 (by decide) ?_
        exact hJ13 _ (by have := wd k (by omega); rw [rd.iD k (by omega)] at c19; grind)
      · skip
        refine a_iconst (pc := 22) (v := 1) dX2_dead_22 (by decide) ?_
        refine a_goto (pc := 23) (tgt := 27) dX2_dead_23 (by decide) ?_
        exact hJ13 _ (by have := wd k (by omega); rw [rd.iD k (by omega)] at c19; grind)
  · skip
    show AW g mX2_dead 1 _ 4 [some (.ref 60), some (.int (itN (fun p n => n + D 9 p) n 0)), some (.int (nI n))] _ (h)
    refine a_iload_n (pc := 4) (i := 2) dX2_dead_4 rfl rfl ?_
    refine a_aload_n (pc := 5) (i := 0) dX2_dead_5 rfl rfl ?_
    refine a_getI (pc := 6) dX2_dead_6 fX2_79_2 rfl (hx.s 60 rfl) (by decide) (hx.n (by decide)) ?_
    refine a_icmp_ge (pc := 9) (tgt := 35) dX2_dead_9 (by decide) (fun _ => ?_) (fun c9 => absurd (by rw [rd.iMany, en]; exact nI_le (Nat.le_refl _) (by omega)) c9)
    refine a_iload_n (pc := 35) (i := 1) dX2_dead_35 rfl rfl ?_
    exact a_iret (pc := 36) dX2_dead_36 rfl (rI_of (by unfold deadD; rw [tn3]) rfl)
theorem c_thirsts60 {g : Gl} {h : AH} (hx : Fx h) {D : De} (rd : RD h 60 D) (p : Nat) (hp : p < 6) (hp2 : p < tn (D 3 3)) (more : Int32) : AM g 75 mX2_thirsts [.ref 60, .int (nI p), .int more] h (eV (fun h2 => RD h2 60 (thD D p more) ∧ Sm [67, 68] h h2)) := by
  refine AM.of (by decide) (Nat.le_of_ble_eq_true rfl) ?_
  show AW g mX2_thirsts 75 _ 0 [some (.ref 60), some (.int (nI p)), some (.int more)] [] h
  obtain ⟨r, er, pr⟩ := rd.iU.1 p hp2
  have e8 : gI h 67 p = D 8 p := rd.iT p hp
  refine a_aload_n (pc := 0) (i := 0) dX2_thirsts_0 rfl rfl ?_
  refine a_getR (pc := 1) dX2_thirsts_1 fX2_37_2 rfl (hx.s 60 rfl) (by decide) (hx.n (by decide)) (hx.r 60 10 67 rfl) ?_
  refine a_iload_n (pc := 4) (i := 1) dX2_thirsts_4 rfl rfl ?_
  refine a_dup2 (pc := 5) dX2_thirsts_5 rfl rfl ?_
  refine a_ialdN (pc := 6) dX2_thirsts_6 (hx.s 67 rfl) (by decide) (hx.n (by decide)) (k := p) rfl ⟨hp, by decide⟩ ?_
  refine a_iload_n (pc := 7) (i := 2) dX2_thirsts_7 rfl rfl ?_
  refine a_iadd (pc := 8) dX2_thirsts_8 ?_
  refine a_iastN (pc := 9) dX2_thirsts_9 (hx.s 67 rfl) (by decide) (hx.n (by decide)) (k := p) rfl ⟨hp, by decide⟩ ?_
  refine a_aload_n (pc := 10) (i := 0) dX2_thirsts_10 rfl rfl ?_
  refine a_getR (pc := 11) dX2_thirsts_11 fX2_40_2 rfl (hx.s 60 rfl) (by decide) (hx.n (by decide)) (hx.r 60 11 68 rfl) ?_
  refine a_iload_n (pc := 14) (i := 1) dX2_thirsts_14 rfl rfl ?_
  refine a_join 38 (bI (limOf (D 4 p) (D 5 p) < D 8 p + more)) ?_ (fun hJ15 => ?_)
  · skip
    refine a_zastN (pc := 38) dX2_thirsts_38 (hx.s 68 rfl) (by decide) (hx.n (by decide)) (k := p) rfl ⟨hp, by decide⟩ nar_bI ?_
    exact a_vret (pc := 39) dX2_thirsts_39 rfl (eV_of ⟨by rw [e8]; exact RD.dead (by decide) (RD.thirst (by decide) rd _ _) _ _, ((Sm.rf h).pI 67 _ _).pI 68 _ _⟩)
  · skip
    refine a_aload_n (pc := 15) (i := 0) dX2_thirsts_15 rfl rfl ?_
    refine a_getR (pc := 16) dX2_thirsts_16 fX2_37_2 rfl (hx.s 60 rfl) (by decide) (hx.n (by decide)) (hx.r 60 10 67 rfl) ?_
    refine a_iload_n (pc := 19) (i := 1) dX2_thirsts_19 rfl rfl ?_
    refine a_ialdN (pc := 20) dX2_thirsts_20 (hx.s 67 rfl) (by decide) (hx.n (by decide)) (k := p) rfl ⟨hp, by decide⟩ ?_
    refine a_aload_n (pc := 21) (i := 0) dX2_thirsts_21 rfl rfl ?_
    refine a_getR (pc := 22) dX2_thirsts_22 fX2_27_2 rfl (hx.s 60 rfl) (by decide) (hx.n (by decide)) (hx.r 60 7 64 rfl) ?_
    refine a_iload_n (pc := 25) (i := 1) dX2_thirsts_25 rfl rfl ?_
    refine a_aaldN (pc := 26) (v := .ref (r)) dX2_thirsts_26 (hx.s 64 rfl) (by decide) (hx.n (by decide)) (by decide) (by decide) (k := p) rfl ⟨hp, by decide⟩ (by rw [show gR (pI h 67 p (gI h 67 p + more)) 64 p = some r from er]; rfl) ?_
    refine d_limit_X2 (pc := 27) (pr.xt ((Xa.rf h).pI (by decide) _ _).t) rfl dX2_thirsts_27 (by decide) (Nat.le_of_ble_eq_true rfl) ?_
    refine a_icmp_le (pc := 30) (tgt := 37) dX2_thirsts_30 (by decide) (fun c30 => ?_) (fun c30 => ?_)
    · skip
      refine a_iconst (pc := 37) (v := 0) dX2_thirsts_37 (by decide) ?_
      exact hJ15 _ (by rw [gI_pI, if_pos rfl, if_pos rfl, e8] at c30; grind [bI])
    · skip
      refine a_iconst (pc := 33) (v := 1) dX2_thirsts_33 (by decide) ?_
      refine a_goto (pc := 34) (tgt := 38) dX2_thirsts_34 (by decide) ?_
      exact hJ15 _ (by rw [gI_pI, if_pos rfl, if_pos rfl, e8] at c30; grind [bI])
theorem c_passes60 {g : Gl} {h : AH} (hx : Fx h) {D : De} (hm : upto 6 (D 3 3)) (rd : RD h 60 D) : AM g 76 mX2_passes [.ref 60] h (eV (fun h2 => RD h2 60 (dayD D) ∧ Sm [60, 61, 67, 68] h h2)) := by
  refine AM.of (by decide) (Nat.le_of_ble_eq_true rfl) ?_
  show AW g mX2_passes 76 _ 0 [some (.ref 60)] [] h
  obtain ⟨n, hn, en⟩ := hm
  have tn3 : tn (D 3 3) = n := by rw [en]; exact tn_nI (by omega)
  refine a_iconst (pc := 0) (v := 0) dX2_passes_0 (by decide) ?_
  refine a_istore_n (pc := 1) (i := 1) dX2_passes_1 rfl (by decide) rfl ?_
  refine AW.forP (fun k => [some (.ref 60), some (.int (nI k))]) (fun k hh => RD hh 60 (rainD D k) ∧ Sm [60, 61, 67, 68] h hh) 8 rfl ⟨rd, Sm.rf h⟩ (fun k h1 hk p1 ih2 => ?_) (fun h1 p1 => ?_)
  · skip
    show AW g mX2_passes 76 _ 2 [some (.ref 60), some (.int (nI k))] _ (h1)
    have hx := hx.sm p1.2
    refine a_iload_n (pc := 2) (i := 1) dX2_passes_2 rfl rfl ?_
    refine a_bipush (pc := 3) (v := 8) dX2_passes_3 (by decide) ?_
    refine a_icmp_ge (pc := 5) (tgt := 36) dX2_passes_5 (by decide) (fun c5 => absurd c5 (nI_ge (b := 8) hk (by decide))) (fun _ => ?_)
    refine a_aload_n (pc := 8) (i := 0) dX2_passes_8 rfl rfl ?_
    refine a_getR (pc := 9) dX2_passes_9 fX2_9_2 rfl (hx.s 60 rfl) (by decide) (hx.n (by decide)) (hx.r 60 0 61 rfl) ?_
    refine a_iload_n (pc := 12) (i := 1) dX2_passes_12 rfl rfl ?_
    refine a_bipush (pc := 13) (v := 99) dX2_passes_13 (by decide) ?_
    refine a_aload_n (pc := 15) (i := 0) dX2_passes_15 rfl rfl ?_
    refine a_getR (pc := 16) dX2_passes_16 fX2_9_2 rfl (hx.s 60 rfl) (by decide) (hx.n (by decide)) (hx.r 60 0 61 rfl) ?_
    refine a_iload_n (pc := 19) (i := 1) dX2_passes_19 rfl rfl ?_
    refine a_ialdN (pc := 20) dX2_passes_20 (hx.s 61 rfl) (by decide) (hx.n (by decide)) (k := k) rfl ⟨by omega, by decide⟩ ?_
    refine a_aload_n (pc := 21) (i := 0) dX2_passes_21 rfl rfl ?_
    refine a_getI (pc := 22) dX2_passes_22 fX2_21_2 rfl (hx.s 60 rfl) (by decide) (hx.n (by decide)) ?_
    refine a_iadd (pc := 25) dX2_passes_25 ?_
    refine a_cSi (pc := 26) (c_min _ _) sX2_88 dX2_passes_26 rfl rfl (by decide) (Nat.le_of_ble_eq_true rfl) ?_
    refine a_iastN (pc := 29) dX2_passes_29 (hx.s 61 rfl) (by decide) (hx.n (by decide)) (k := k) rfl ⟨by omega, by decide⟩ ?_
    refine a_iinc (pc := 30) (v := 1) dX2_passes_30 rfl (by decide) (by decide) rfl ?_
    refine a_goto (pc := 33) (tgt := 2) dX2_passes_33 (by decide) ?_
    rw [nI_1]
    refine ih2 _ ⟨?_, p1.2.pI 61 _ _⟩
    have q := RD.water (by decide) p1.1 k (min99 (gI h1 61 k + gI h1 60 3))
    have e1 := p1.1.iW k (by omega)
    have e2 := p1.1.iRain
    unfold rainD
    rw [itN_s]
    unfold rainD at q e1 e2
    have e3 : min99 (gI h1 61 k + gI h1 60 3) = (if gI h1 61 k + gI h1 60 3 < 99 then gI h1 61 k + gI h1 60 3 else 99) := rfl
    rw [← e3]
    rw [← show gI h1 61 k = _ from e1, ← show gI h1 60 3 = _ from e2]
    exact q
  · skip
    show AW g mX2_passes 76 _ 2 [some (.ref 60), some (.int (nI 8))] _ (h1)
    have hx := hx.sm p1.2
    refine a_iload_n (pc := 2) (i := 1) dX2_passes_2 rfl rfl ?_
    refine a_bipush (pc := 3) (v := 8) dX2_passes_3 (by decide) ?_
    refine a_icmp_ge (pc := 5) (tgt := 36) dX2_passes_5 (by decide) (fun _ => ?_) (fun c5 => absurd (by decide) c5)
    refine a_iconst (pc := 36) (v := 0) dX2_passes_36 (by decide) ?_
    refine a_istore_n (pc := 37) (i := 1) dX2_passes_37 rfl (by decide) rfl ?_
    refine AW.forP (fun k => [some (.ref 60), some (.int (nI k))]) (fun k hh => RD hh 60 (dayP k (rainD D 8)) ∧ Sm [60, 61, 67, 68] h hh) n rfl ⟨p1.1, p1.2⟩ (fun k h2 hk p2 ih38 => ?_) (fun h2 p2 => ?_)
    · skip
      show AW g mX2_passes 76 _ 38 [some (.ref 60), some (.int (nI k))] _ (h2)
      have hx := hx.sm (Sm.same p1.2 p2.2)
      refine a_iload_n (pc := 38) (i := 1) dX2_passes_38 rfl rfl ?_
      refine a_aload_n (pc := 39) (i := 0) dX2_passes_39 rfl rfl ?_
      refine a_getI (pc := 40) dX2_passes_40 fX2_79_2 rfl (hx.s 60 rfl) (by decide) (hx.n (by decide)) ?_
      refine a_icmp_ge (pc := 43) (tgt := 67) dX2_passes_43 (by decide) (fun c43 => absurd c43 (by rw [p2.1.iMany, dayP_33, rainD_33, en]; exact nI_ge hk (by omega))) (fun _ => ?_)
      refine a_aload_n (pc := 46) (i := 0) dX2_passes_46 rfl rfl ?_
      refine a_getR (pc := 47) dX2_passes_47 fX2_40_2 rfl (hx.s 60 rfl) (by decide) (hx.n (by decide)) (hx.r 60 11 68 rfl) ?_
      refine a_iload_n (pc := 50) (i := 1) dX2_passes_50 rfl rfl ?_
      refine a_zaldN (pc := 51) dX2_passes_51 (hx.s 68 rfl) (by decide) (hx.n (by decide)) (k := k) rfl ⟨by omega, by decide⟩ ?_
      refine a_if_ne (pc := 52) (tgt := 61) dX2_passes_52 (by decide) (fun c52 => ?_) (fun c52 => ?_)
      · skip
        refine a_iinc (pc := 61) (v := 1) dX2_passes_61 rfl (by decide) (by decide) rfl ?_
        refine a_goto (pc := 64) (tgt := 38) dX2_passes_64 (by decide) ?_
        rw [nI_1]
        refine ih38 _ ?_
        unfold dayP
        rw [itN_s]
        show RD _ 60 (if dayP k (rainD D 8) 9 k = 0 then thD (dayP k (rainD D 8)) k 1 else dayP k (rainD D 8)) ∧ _
        rw [show gI h2 68 k = _ from p2.1.iD k (by omega)] at c52
        rw [if_neg c52]
        exact p2
      · skip
        refine a_aload_n (pc := 55) (i := 0) dX2_passes_55 rfl rfl ?_
        refine a_iload_n (pc := 56) (i := 1) dX2_passes_56 rfl rfl ?_
        refine a_iconst (pc := 57) (v := 1) dX2_passes_57 (by decide) ?_
        refine a_cVw (pc := 58) (c_thirsts60 hx p2.1 k (by omega) (by rw [dayP_33, rainD_33, tn3]; exact hk) 1) sX2_135_2 dX2_passes_58 (recv_obj (t := 2) rfl (hx.s 60 rfl) (by decide) (hx.n (by decide))) rfl rfl (by decide) (Nat.le_of_ble_eq_true rfl) (fun h4 e4 => ?_)
        refine a_iinc (pc := 61) (v := 1) dX2_passes_61 rfl (by decide) (by decide) rfl ?_
        refine a_goto (pc := 64) (tgt := 38) dX2_passes_64 (by decide) ?_
        rw [nI_1]
        refine ih38 _ ?_
        unfold dayP
        rw [itN_s]
        show RD _ 60 (if dayP k (rainD D 8) 9 k = 0 then thD (dayP k (rainD D 8)) k 1 else dayP k (rainD D 8)) ∧ _
        rw [show gI h2 68 k = _ from p2.1.iD k (by omega)] at c52
        rw [if_pos c52]
        exact ⟨e4.1, p2.2.tr (e4.2.mono)⟩
    · skip
      show AW g mX2_passes 76 _ 38 [some (.ref 60), some (.int (nI n))] _ (h2)
      have hx := hx.sm (Sm.same p1.2 p2.2)
      refine a_iload_n (pc := 38) (i := 1) dX2_passes_38 rfl rfl ?_
      refine a_aload_n (pc := 39) (i := 0) dX2_passes_39 rfl rfl ?_
      refine a_getI (pc := 40) dX2_passes_40 fX2_79_2 rfl (hx.s 60 rfl) (by decide) (hx.n (by decide)) ?_
      refine a_icmp_ge (pc := 43) (tgt := 67) dX2_passes_43 (by decide) (fun _ => ?_) (fun c43 => absurd (by rw [p2.1.iMany, dayP_33, rainD_33, en]; exact nI_le (Nat.le_refl _) (by omega)) c43)
      refine a_aload_n (pc := 67) (i := 0) dX2_passes_67 rfl rfl ?_
      refine a_dup (pc := 68) dX2_passes_68 rfl ?_
      refine a_getI (pc := 69) dX2_passes_69 fX2_76_2 rfl (hx.s 60 rfl) (by decide) (hx.n (by decide)) ?_
      refine a_iconst (pc := 72) (v := 1) dX2_passes_72 (by decide) ?_
      refine a_iadd (pc := 73) dX2_passes_73 ?_
      refine a_putI (pc := 74) dX2_passes_74 fX2_76_2 (Or.inl rfl) rfl (hx.s 60 rfl) (by decide) (hx.n (by decide)) rfl rfl ?_
      refine a_aload_n (pc := 77) (i := 0) dX2_passes_77 rfl rfl ?_
      refine a_dup (pc := 78) dX2_passes_78 rfl ?_
      refine a_getI (pc := 79) dX2_passes_79 fX2_73_2 rfl (hx.s 60 rfl) (by decide) (hx.n (by decide)) ?_
      refine a_iconst (pc := 82) (v := 1) dX2_passes_82 (by decide) ?_
      refine a_iadd (pc := 83) dX2_passes_83 ?_
      refine a_putI (pc := 84) dX2_passes_84 fX2_73_2 (Or.inl rfl) rfl (hx.s 60 rfl) (by decide) (hx.n (by decide)) rfl rfl ?_
      exact a_vret (pc := 87) dX2_passes_87 rfl (eV_of ⟨by unfold dayD; rw [tn3, ← p2.1.iDay, ← p2.1.iHour]; exact RD.hour (by decide) (RD.day (by decide) p2.1 _) _, (p2.2.pI 60 _ _).pI 60 _ _⟩)
