/-! ===== numbers; ends that are pairs ===== -/
theorem rI_p {v : Int32} {h : AH} {p : Int32 × AH} (e : (v, h) = p) : rI p.1 p.2 (.returned (some (.int v))) h := by
  subst e; exact ⟨rfl, rfl⟩
theorem rI_p2 {p q : Int32 × AH} (e : q = p) : rI p.1 p.2 (.returned (some (.int q.1))) q.2 := by
  subst e; exact ⟨rfl, rfl⟩
theorem vin_of {w M : Int32} {n : Nat} (h : 0 ≤ w ∧ w ≤ M) (hM : M.toInt < n) : vp_in w n := by
  rw [vp_in_iff]
  have h1 := Int32.le_iff_toInt_le.mp h.1
  have h2 := Int32.le_iff_toInt_le.mp h.2
  rw [Int32.toInt_zero] at h1
  omega
theorem nI_ex {w M : Int32} {n : Nat} (h : 0 ≤ w ∧ w ≤ M) (hM : M.toInt = n) : ∃ j : Nat, j ≤ n ∧ w = nI j := nI_of2 hM (Int32.not_lt.mpr h.1) h.2
def tn (x : Int32) : Nat := x.toNatClampNeg
theorem tn_nI {n : Nat} (h : n < 2 ^ 31) : tn (nI n) = n := nI_clamp h
/-- what an act answers in place of doing anything -/
def xErr (h : AH) (c : Nat) : Int32 × AH := (-1000000000 - nI c, pI (pI h 31 6 (nI c)) 76 c (gI h 76 c + 1))
def xWater (h : AH) (w v : Int32) : Int32 × AH := if (0 ≤ w ∧ w ≤ 7) ∧ 0 ≤ v ∧ v ≤ 99 then (gI h 33 (tn w), pI h 33 (tn w) v) else xErr h 1
def xRoad (h : AH) (a b v : Int32) : Int32 × AH := if ((0 ≤ a ∧ a ≤ 7) ∧ (0 ≤ b ∧ b ≤ 7) ∧ a ≠ b) ∧ 0 ≤ v ∧ v ≤ 20 then (gI h 34 (8 * tn a + tn b), pI (pI h 34 (8 * tn a + tn b) v) 34 (8 * tn b + tn a) v) else xErr h 1
def xOwe (h : AH) (a b v : Int32) : Int32 × AH := if ((0 ≤ a ∧ a ≤ 7) ∧ (0 ≤ b ∧ b ≤ 7) ∧ a ≠ b) ∧ 0 ≤ v ∧ v ≤ 9999 then (gI h 35 (8 * tn a + tn b), pI h 35 (8 * tn a + tn b) v) else xErr h 1
def xRain (h : AH) (v : Int32) : Int32 × AH := if 0 ≤ v ∧ v ≤ 9 then (gI h 32 3, pI h 32 3 v) else xErr h 1
def xSeed (h : AH) (v : Int32) : Int32 × AH := (gI h 32 13, pI h 32 13 v)
def xTold (h : AH) (k : Int32) : Int32 × AH := if 1 ≤ k ∧ k ≤ 5 then (gI h 76 (tn k), h) else xErr h 1
def xTrace (h : AH) (i : Int32) : Int32 × AH := if 0 ≤ i ∧ i ≤ gI h 74 1 - 1 then (gI h 75 (tn i), h) else xErr h 2
def xTell (h : AH) (v : Int32) : Int32 × AH := if gI h 32 17 < 20 then (gI h 32 17 + 1, pI (pI h 43 (tn (gI h 32 17)) v) 32 17 (gI h 32 17 + 1)) else xErr h 4
section
variable {g : Gl} {M : MI} {d : Nat} {Q : Outcome → AH → Prop} {pc : Nat} {ls : List (Option Value)} {st : List Value} {h : AH}
theorem a_bs0 {P : Prop} [Decidable P] (k1 : P → AW g M d Q pc ls (.int 1 :: st) h) (k0 : ¬ P → AW g M d Q pc ls (.int 0 :: st) h) : AW g M d Q pc ls (.int (bI P) :: st) h := by
  by_cases hP : P
  · rw [bI_t hP]; exact k1 hP
  · rw [bI_f hP]; exact k0 hP
theorem a_bs1 {P : Prop} [Decidable P] {x : Value} (k1 : P → AW g M d Q pc ls (x :: .int 1 :: st) h) (k0 : ¬ P → AW g M d Q pc ls (x :: .int 0 :: st) h) : AW g M d Q pc ls (x :: .int (bI P) :: st) h := by
  by_cases hP : P
  · rw [bI_t hP]; exact k1 hP
  · rw [bI_f hP]; exact k0 hP
end
theorem nI_lt1 {x i : Int32} {N : Nat} (hm : ∃ n : Nat, n ≤ N ∧ x = nI n) (h : 0 ≤ i ∧ i ≤ x - 1) (hN : N < 2 ^ 31 := by decide) : ∃ j : Nat, j < N ∧ i = nI j := by
  obtain ⟨n, hn, rfl⟩ := hm
  have h1 := Int32.le_iff_toInt_le.mp h.1
  have h2 := Int32.le_iff_toInt_le.mp h.2
  rw [Int32.toInt_zero] at h1
  obtain ⟨j, hj, rfl⟩ := nI_of (Int32.not_lt.mpr h.1)
  refine ⟨j, ?_, rfl⟩
  rw [nI_toInt hj] at h2
  cases n with
  | zero =>
    have : (nI 0 - 1 : Int32).toInt = -1 := by decide
    omega
  | succ k =>
    rw [nI_pred, nI_toInt (by omega)] at h2
    omega
/-! ===== the model's acts, pure ===== -/
def mErr (h : AH) (c : Nat) : Int32 × AH := (-1000000000 - nI c, pI h 88 c (gI h 88 c + 1))
def mWater (h : AH) (w v : Int32) : Int32 × AH := if (0 ≤ w ∧ w ≤ 7) ∧ 0 ≤ v ∧ v ≤ 99 then (gI h 85 (tn w), pI h 85 (tn w) v) else mErr h 1
def mRoad (h : AH) (a b v : Int32) : Int32 × AH := if ((0 ≤ a ∧ a ≤ 7) ∧ (0 ≤ b ∧ b ≤ 7) ∧ a ≠ b) ∧ 0 ≤ v ∧ v ≤ 20 then (gI (pI h 85 (8 + 8 * tn b + tn a) v) 85 (8 + 8 * tn a + tn b), pI (pI h 85 (8 + 8 * tn b + tn a) v) 85 (8 + 8 * tn a + tn b) v) else mErr h 1
def mOwe (h : AH) (a b v : Int32) : Int32 × AH := if ((0 ≤ a ∧ a ≤ 7) ∧ (0 ≤ b ∧ b ≤ 7) ∧ a ≠ b) ∧ 0 ≤ v ∧ v ≤ 9999 then (gI h 85 (72 + 8 * tn a + tn b), pI h 85 (72 + 8 * tn a + tn b) v) else mErr h 1
def mRain (h : AH) (v : Int32) : Int32 × AH := if 0 ≤ v ∧ v ≤ 9 then (gI h 85 136, pI h 85 136 v) else mErr h 1
def mSeed (h : AH) (v : Int32) : Int32 × AH := (gI h 85 176, pI h 85 176 v)
def mTold (h : AH) (k : Int32) : Int32 × AH := if 1 ≤ k ∧ k ≤ 5 then (gI h 88 (tn k), h) else mErr h 1
def mTrace (h : AH) (i : Int32) : Int32 × AH := if 0 ≤ i ∧ i ≤ gI h 84 17 - 1 then (gI h 91 (tn i), h) else mErr h 2
def mTell (h : AH) (v : Int32) : Int32 × AH := if gI h 85 178 = 20 then mErr h 4 else (gI h 85 178 + 1, pI (pI h 85 (331 + tn (gI h 85 178)) v) 85 178 (gI h 85 178 + 1))
theorem i64_le (a b : Int32) : a.toInt64 ≤ b.toInt64 ↔ a ≤ b := by
  rw [Int64.le_iff_toInt_le, Int32.le_iff_toInt_le, Int32.toInt_toInt64, Int32.toInt_toInt64]
/-! ===== indices as naturals ===== -/
theorem ix8 (i j : Nat) : 8 * nI i + nI j = nI (8 * i + j) := by rw [show (8 : Int32) = nI 8 from rfl, pk_mul, nI_add]
theorem ix88 (i j : Nat) : 8 + 8 * nI i + nI j = nI (8 + 8 * i + j) := by rw [show (8 : Int32) = nI 8 from rfl, pk_mul, nI_add, nI_add]
theorem ix72 (i j : Nat) : 72 + 8 * nI i + nI j = nI (72 + 8 * i + j) := by rw [show (8 : Int32) = nI 8 from rfl, show (72 : Int32) = nI 72 from rfl, pk_mul, nI_add, nI_add]
theorem ixP (p w : Nat) : 140 + 6 * nI p + nI w = nI (140 + 6 * p + w) := by rw [show (6 : Int32) = nI 6 from rfl, show (140 : Int32) = nI 140 from rfl, pk_mul, nI_add, nI_add]
theorem ix331 (n : Nat) : 331 + nI n = nI (331 + n) := by rw [show (331 : Int32) = nI 331 from rfl, nI_add]
section
variable {g : Gl} {M : MI} {d : Nat} {Q : Outcome → AH → Prop} {pc : Nat} {ls : List (Option Value)} {st : List Value} {h : AH}
theorem a_ialdN {a len k : Nat} {i : Int32} (hd : decode M.2.1 pc = .ok (.iaload, 1)) (hs : gS h a = (40, len)) (ha : 30 ≤ a) (hn : a < gN h) (hi : i = nI k) (hk : k < len ∧ len < 1000000) (kk : AW g M d Q (pc + 1) ls (.int (gI h a k) :: st) h) : AW g M d Q pc ls (.int i :: .ref a :: st) h := by
  subst hi
  refine a_iald hd hs ha hn (vp_in_nI hk.1 (by omega)) ?_
  rw [nI_clamp (by omega)]
  exact kk
theorem a_zaldN {a len k : Nat} {i : Int32} (hd : decode M.2.1 pc = .ok (.baload, 1)) (hs : gS h a = (41, len)) (ha : 30 ≤ a) (hn : a < gN h) (hi : i = nI k) (hk : k < len ∧ len < 1000000) (kk : AW g M d Q (pc + 1) ls (.int (gI h a k) :: st) h) : AW g M d Q pc ls (.int i :: .ref a :: st) h := by
  subst hi
  refine a_zald hd hs ha hn (vp_in_nI hk.1 (by omega)) ?_
  rw [nI_clamp (by omega)]
  exact kk
theorem a_baldN {a len k : Nat} {i : Int32} (hd : decode M.2.1 pc = .ok (.baload, 1)) (hs : gS h a = (42, len)) (ha : 30 ≤ a) (hn : a < gN h) (hi : i = nI k) (hk : k < len ∧ len < 1000000) (kk : AW g M d Q (pc + 1) ls (.int (gI h a k) :: st) h) : AW g M d Q pc ls (.int i :: .ref a :: st) h := by
  subst hi
  refine a_bald hd hs ha hn (vp_in_nI hk.1 (by omega)) ?_
  rw [nI_clamp (by omega)]
  exact kk
theorem a_saldN {a len k : Nat} {i : Int32} (hd : decode M.2.1 pc = .ok (.saload, 1)) (hs : gS h a = (43, len)) (ha : 30 ≤ a) (hn : a < gN h) (hi : i = nI k) (hk : k < len ∧ len < 1000000) (kk : AW g M d Q (pc + 1) ls (.int (gI h a k) :: st) h) : AW g M d Q pc ls (.int i :: .ref a :: st) h := by
  subst hi
  refine a_sald hd hs ha hn (vp_in_nI hk.1 (by omega)) ?_
  rw [nI_clamp (by omega)]
  exact kk
theorem a_iastN {a len k : Nat} {i x : Int32} (hd : decode M.2.1 pc = .ok (.iastore, 1)) (hs : gS h a = (40, len)) (ha : 30 ≤ a) (hn : a < gN h) (hi : i = nI k) (hk : k < len ∧ len < 1000000) (kk : AW g M d Q (pc + 1) ls st (pI h a k (x))) : AW g M d Q pc ls (.int x :: .int i :: .ref a :: st) h := by
  subst hi
  refine a_iast hd hs ha hn (vp_in_nI hk.1 (by omega)) ?_
  rw [nI_clamp (by omega)]
  exact kk
theorem a_zastN {a len k : Nat} {i x : Int32} (hd : decode M.2.1 pc = .ok (.bastore, 1)) (hs : gS h a = (41, len)) (ha : 30 ≤ a) (hn : a < gN h) (hi : i = nI k) (hk : k < len ∧ len < 1000000) (hx : narrow .boolean (.int x) = .int x) (kk : AW g M d Q (pc + 1) ls st (pI h a k (x))) : AW g M d Q pc ls (.int x :: .int i :: .ref a :: st) h := by
  subst hi
  refine a_zast hd hs ha hn (vp_in_nI hk.1 (by omega)) hx ?_
  rw [nI_clamp (by omega)]
  exact kk
theorem a_bastN {a len k : Nat} {i x : Int32} (hd : decode M.2.1 pc = .ok (.bastore, 1)) (hs : gS h a = (42, len)) (ha : 30 ≤ a) (hn : a < gN h) (hi : i = nI k) (hk : k < len ∧ len < 1000000) (kk : AW g M d Q (pc + 1) ls st (pI h a k (x.toInt8.toInt32))) : AW g M d Q pc ls (.int x :: .int i :: .ref a :: st) h := by
  subst hi
  refine a_bast hd hs ha hn (vp_in_nI hk.1 (by omega)) ?_
  rw [nI_clamp (by omega)]
  exact kk
theorem a_sastN {a len k : Nat} {i x : Int32} (hd : decode M.2.1 pc = .ok (.sastore, 1)) (hs : gS h a = (43, len)) (ha : 30 ≤ a) (hn : a < gN h) (hi : i = nI k) (hk : k < len ∧ len < 1000000) (kk : AW g M d Q (pc + 1) ls st (pI h a k (x.toInt16.toInt32))) : AW g M d Q pc ls (.int x :: .int i :: .ref a :: st) h := by
  subst hi
  refine a_sast hd hs ha hn (vp_in_nI hk.1 (by omega)) ?_
  rw [nI_clamp (by omega)]
  exact kk
theorem a_aaldN {a t len k : Nat} {i : Int32} {v : Value} (hd : decode M.2.1 pc = .ok (.aaload, 1)) (hs : gS h a = (t, len)) (ha : 30 ≤ a) (hn : a < gN h) (h1 : 44 ≤ t) (h2 : t < 47) (hi : i = nI k) (hk : k < len ∧ len < 1000000) (hv : rfv (gR h a k) = v) (kk : AW g M d Q (pc + 1) ls (v :: st) h) : AW g M d Q pc ls (.int i :: .ref a :: st) h := by
  subst hi
  refine a_aald hd hs ha hn h1 h2 (vp_in_nI hk.1 (by omega)) ?_ kk
  rw [nI_clamp (by omega)]
  exact hv.symm
theorem a_aastN {a t len b tb lb k : Nat} {i : Int32} (hd : decode M.2.1 pc = .ok (.aastore, 1)) (hs : gS h a = (t, len)) (ha : 30 ≤ a) (hn : a < gN h) (hsb : gS h b = (tb, lb)) (hb : 30 ≤ b) (hnb : b < gN h) (hok : AstOK tb t) (hi : i = nI k) (hk : k < len ∧ len < 1000000) (kk : AW g M d Q (pc + 1) ls st (pR h a k (some b))) : AW g M d Q pc ls (.ref b :: .int i :: .ref a :: st) h := by
  subst hi
  refine a_aast hd hs ha hn hsb hb hnb hok (vp_in_nI hk.1 (by omega)) ?_
  rw [nI_clamp (by omega)]
  exact kk
end
