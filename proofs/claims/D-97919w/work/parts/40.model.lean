/-! ===== the model: helpers, acts without loops (printed by gen/p40.py) ===== -/
theorem c_mIn {g : Gl} {h : AH} (v lo hi : Int64) : AM g 1 mX6_in [.long v, .long lo, .long hi] h (rI (bI (lo ≤ v ∧ v ≤ hi)) h) := by
  refine AM.of (by decide) (Nat.le_of_ble_eq_true rfl) ?_
  show AW g mX6_in 1 _ 0 [some (.long v), none, some (.long lo), none, some (.long hi), none] [] h
  refine a_lload_n (pc := 0) (i := 0) dX6_in_0 rfl rfl ?_
  refine a_lload_n (pc := 1) (i := 2) dX6_in_1 rfl rfl ?_
  refine a_lcmp (pc := 2) dX6_in_2 ?_
  refine a_if_lt (pc := 3) (tgt := 17) dX6_in_3 (by decide) (fun c3 => ?_) (fun c3 => ?_)
  · skip
    refine a_iconst (pc := 17) (v := 0) dX6_in_17 (by decide) ?_
    exact a_zret (pc := 18) dX6_in_18 rfl rfl (rI_of (by grind [bI, lg_cmp]) rfl)
  · skip
    refine a_lload_n (pc := 6) (i := 0) dX6_in_6 rfl rfl ?_
    refine a_lload (pc := 7) dX6_in_7 rfl ?_
    refine a_lcmp (pc := 9) dX6_in_9 ?_
    refine a_if_gt (pc := 10) (tgt := 17) dX6_in_10 (by decide) (fun c10 => ?_) (fun c10 => ?_)
    · skip
      refine a_iconst (pc := 17) (v := 0) dX6_in_17 (by decide) ?_
      exact a_zret (pc := 18) dX6_in_18 rfl rfl (rI_of (by grind [bI, lg_cmp]) rfl)
    · skip
      refine a_iconst (pc := 13) (v := 1) dX6_in_13 (by decide) ?_
      refine a_goto (pc := 14) (tgt := 18) dX6_in_14 (by decide) ?_
      exact a_zret (pc := 18) dX6_in_18 rfl rfl (rI_of (by grind [bI, lg_cmp]) rfl)
theorem c_mInc {g : Gl} {h : AH} (v lo hi : Int32) (l m : Int64) (hl : l = lo.toInt64) (hm : m = hi.toInt64) : AM g 1 mX6_in [.long v.toInt64, .long l, .long m] h (rI (bI (lo ≤ v ∧ v ≤ hi)) h) := by
  subst hl
  subst hm
  have e : bI (lo.toInt64 ≤ v.toInt64 ∧ v.toInt64 ≤ hi.toInt64) = bI (lo ≤ v ∧ v ≤ hi) := by
    unfold bI
    simp only [i64_le]
  rw [← e]
  exact c_mIn _ _ _
theorem c_mIsWell {g : Gl} {h : AH} (w : Int32) : AM g 2 mX6_isWell [.int w] h (rI (bI (0 ≤ w ∧ w ≤ 7)) h) := by
  refine AM.of (by decide) (Nat.le_of_ble_eq_true rfl) ?_
  show AW g mX6_isWell 2 _ 0 [some (.int w)] [] h
  refine a_iload_n (pc := 0) (i := 0) dX6_isWell_0 rfl rfl ?_
  refine a_i2l (pc := 1) dX6_isWell_1 ?_
  refine a_lconst (pc := 2) (v := 0) dX6_isWell_2 (by decide) ?_
  refine a_ldc2 (pc := 3) dX6_isWell_3 q1513 ?_
  refine a_cSi (pc := 6) (c_mInc _ 0 7 _ _ (by decide) (by decide)) sX6_46 dX6_isWell_6 rfl rfl (by decide) (Nat.le_of_ble_eq_true rfl) ?_
  exact a_zret (pc := 9) dX6_isWell_9 rfl nar_bI (rI_of rfl rfl)
theorem c_mIsSet {g : Gl} {h : AH} (w : Int32) : AM g 2 mX6_isSet [.int w] h (rI (bI (0 ≤ w ∧ w ≤ 255)) h) := by
  refine AM.of (by decide) (Nat.le_of_ble_eq_true rfl) ?_
  show AW g mX6_isSet 2 _ 0 [some (.int w)] [] h
  refine a_iload_n (pc := 0) (i := 0) dX6_isSet_0 rfl rfl ?_
  refine a_i2l (pc := 1) dX6_isSet_1 ?_
  refine a_lconst (pc := 2) (v := 0) dX6_isSet_2 (by decide) ?_
  refine a_ldc2 (pc := 3) dX6_isSet_3 q1670 ?_
  refine a_cSi (pc := 6) (c_mInc _ 0 255 _ _ (by decide) (by decide)) sX6_46 dX6_isSet_6 rfl rfl (by decide) (Nat.le_of_ble_eq_true rfl) ?_
  exact a_zret (pc := 9) dX6_isSet_9 rfl nar_bI (rI_of rfl rfl)
theorem c_mIsMind {g : Gl} {h : AH} (w : Int32) : AM g 2 mX6_isMind [.int w] h (rI (bI (0 ≤ w ∧ w ≤ 69)) h) := by
  refine AM.of (by decide) (Nat.le_of_ble_eq_true rfl) ?_
  show AW g mX6_isMind 2 _ 0 [some (.int w)] [] h
  refine a_iload_n (pc := 0) (i := 0) dX6_isMind_0 rfl rfl ?_
  refine a_i2l (pc := 1) dX6_isMind_1 ?_
  refine a_lconst (pc := 2) (v := 0) dX6_isMind_2 (by decide) ?_
  refine a_ldc2 (pc := 3) dX6_isMind_3 q1578 ?_
  refine a_cSi (pc := 6) (c_mInc _ 0 69 _ _ (by decide) (by decide)) sX6_46 dX6_isMind_6 rfl rfl (by decide) (Nat.le_of_ble_eq_true rfl) ?_
  exact a_zret (pc := 9) dX6_isMind_9 rfl nar_bI (rI_of rfl rfl)
theorem c_mIsSheet {g : Gl} {h : AH} (w : Int32) : AM g 2 mX6_isSheet [.int w] h (rI (bI (0 ≤ w ∧ w ≤ 3)) h) := by
  refine AM.of (by decide) (Nat.le_of_ble_eq_true rfl) ?_
  show AW g mX6_isSheet 2 _ 0 [some (.int w)] [] h
  refine a_iload_n (pc := 0) (i := 0) dX6_isSheet_0 rfl rfl ?_
  refine a_i2l (pc := 1) dX6_isSheet_1 ?_
  refine a_lconst (pc := 2) (v := 0) dX6_isSheet_2 (by decide) ?_
  refine a_ldc2 (pc := 3) dX6_isSheet_3 q1805 ?_
  refine a_cSi (pc := 6) (c_mInc _ 0 3 _ _ (by decide) (by decide)) sX6_46 dX6_isSheet_6 rfl rfl (by decide) (Nat.le_of_ble_eq_true rfl) ?_
  exact a_zret (pc := 9) dX6_isSheet_9 rfl nar_bI (rI_of rfl rfl)
theorem c_mIsDigit {g : Gl} {h : AH} (w : Int32) : AM g 2 mX6_isDigit [.int w] h (rI (bI (48 ≤ w ∧ w ≤ 57)) h) := by
  refine AM.of (by decide) (Nat.le_of_ble_eq_true rfl) ?_
  show AW g mX6_isDigit 2 _ 0 [some (.int w)] [] h
  refine a_iload_n (pc := 0) (i := 0) dX6_isDigit_0 rfl rfl ?_
  refine a_i2l (pc := 1) dX6_isDigit_1 ?_
  refine a_ldc2 (pc := 2) dX6_isDigit_2 q1640 ?_
  refine a_ldc2 (pc := 5) dX6_isDigit_5 q1641 ?_
  refine a_cSi (pc := 8) (c_mInc _ 48 57 _ _ (by decide) (by decide)) sX6_46 dX6_isDigit_8 rfl rfl (by decide) (Nat.le_of_ble_eq_true rfl) ?_
  exact a_zret (pc := 11) dX6_isDigit_11 rfl nar_bI (rI_of rfl rfl)
theorem c_mHeld {g : Gl} {h : AH} (v lo hi : Int32) : AM g 1 mX6_held [.int v, .int lo, .int hi] h (rI (if v < lo then lo else if hi < v then hi else v) h) := by
  refine AM.of (by decide) (Nat.le_of_ble_eq_true rfl) ?_
  show AW g mX6_held 1 _ 0 [some (.int v), some (.int lo), some (.int hi)] [] h
  refine a_iload_n (pc := 0) (i := 0) dX6_held_0 rfl rfl ?_
  refine a_iload_n (pc := 1) (i := 1) dX6_held_1 rfl rfl ?_
  refine a_icmp_ge (pc := 2) (tgt := 9) dX6_held_2 (by decide) (fun c2 => ?_) (fun c2 => ?_)
  · skip
    refine a_iload_n (pc := 9) (i := 0) dX6_held_9 rfl rfl ?_
    refine a_iload_n (pc := 10) (i := 2) dX6_held_10 rfl rfl ?_
    refine a_icmp_le (pc := 11) (tgt := 18) dX6_held_11 (by decide) (fun c11 => ?_) (fun c11 => ?_)
    · skip
      refine a_iload_n (pc := 18) (i := 0) dX6_held_18 rfl rfl ?_
      exact a_iret (pc := 19) dX6_held_19 rfl (rI_of (by grind) rfl)
    · skip
      refine a_iload_n (pc := 14) (i := 2) dX6_held_14 rfl rfl ?_
      refine a_goto (pc := 15) (tgt := 19) dX6_held_15 (by decide) ?_
      exact a_iret (pc := 19) dX6_held_19 rfl (rI_of (by grind) rfl)
  · skip
    refine a_iload_n (pc := 5) (i := 1) dX6_held_5 rfl rfl ?_
    refine a_goto (pc := 6) (tgt := 19) dX6_held_6 (by decide) ?_
    exact a_iret (pc := 19) dX6_held_19 rfl (rI_of (by grind) rfl)
theorem c_mSpot {g : Gl} {h : AH} (p w : Int32) : AM g 1 mX6_spot [.int p, .int w] h (rI (140 + 6 * p + w) h) := by
  refine AM.of (by decide) (Nat.le_of_ble_eq_true rfl) ?_
  show AW g mX6_spot 1 _ 0 [some (.int p), some (.int w)] [] h
  refine a_sipush (pc := 0) (v := 140) dX6_spot_0 (by decide) ?_
  refine a_bipush (pc := 3) (v := 6) dX6_spot_3 (by decide) ?_
  refine a_iload_n (pc := 5) (i := 0) dX6_spot_5 rfl rfl ?_
  refine a_imul (pc := 6) dX6_spot_6 ?_
  refine a_iadd (pc := 7) dX6_spot_7 ?_
  refine a_iload_n (pc := 8) (i := 1) dX6_spot_8 rfl rfl ?_
  refine a_iadd (pc := 9) dX6_spot_9 ?_
  exact a_iret (pc := 10) dX6_spot_10 rfl (rI_of rfl rfl)
theorem c_mIts {g : Gl} {h : AH} (hx : Fx h) (p w : Nat) (hp : p ≤ 5) (hw : w ≤ 5) {x : Int32} (hxw : x = nI w) : AM g 2 mX6_its [.ref 84, .int (nI p), .int x] h (rI (gI h 85 (140 + 6 * p + w)) h) := by
  refine AM.of (by decide) (Nat.le_of_ble_eq_true rfl) ?_
  show AW g mX6_its 2 _ 0 [some (.ref 84), some (.int (nI p)), some (.int x)] [] h
  subst hxw
  refine a_aload_n (pc := 0) (i := 0) dX6_its_0 rfl rfl ?_
  refine a_getR (pc := 1) dX6_its_1 fX6_7_6 rfl (hx.s 84 rfl) (by decide) (hx.n (by decide)) (hx.r 84 0 85 rfl) ?_
  refine a_iload_n (pc := 4) (i := 1) dX6_its_4 rfl rfl ?_
  refine a_iload_n (pc := 5) (i := 2) dX6_its_5 rfl rfl ?_
  refine a_cSi (pc := 6) (c_mSpot _ _) sX6_54 dX6_its_6 rfl rfl (by decide) (Nat.le_of_ble_eq_true rfl) ?_
  refine a_ialdN (pc := 9) dX6_its_9 (hx.s 85 rfl) (by decide) (hx.n (by decide)) (k := 140 + 6 * p + w) (ixP p w) ⟨by omega, by decide⟩ ?_
  exact a_iret (pc := 10) dX6_its_10 rfl (rI_of rfl rfl)
theorem c_mBecomes {g : Gl} {h : AH} (hx : Fx h) (k : Nat) (hk : k < 351) (v : Int32) {w : Int32} (hw : w = nI k) : AM g 1 mX6_becomes [.ref 84, .int w, .int v] h (rI (gI h 85 k) (pI h 85 k v)) := by
  refine AM.of (by decide) (Nat.le_of_ble_eq_true rfl) ?_
  show AW g mX6_becomes 1 _ 0 [some (.ref 84), some (.int w), some (.int v)] [] h
  subst hw
  refine a_aload_n (pc := 0) (i := 0) dX6_becomes_0 rfl rfl ?_
  refine a_getR (pc := 1) dX6_becomes_1 fX6_7_6 rfl (hx.s 84 rfl) (by decide) (hx.n (by decide)) (hx.r 84 0 85 rfl) ?_
  refine a_iload_n (pc := 4) (i := 1) dX6_becomes_4 rfl rfl ?_
  refine a_ialdN (pc := 5) dX6_becomes_5 (hx.s 85 rfl) (by decide) (hx.n (by decide)) (k := k) rfl ⟨hk, by decide⟩ ?_
  refine a_istore_n (pc := 6) (i := 3) dX6_becomes_6 rfl (by decide) rfl ?_
  refine a_aload_n (pc := 7) (i := 0) dX6_becomes_7 rfl rfl ?_
  refine a_getR (pc := 8) dX6_becomes_8 fX6_7_6 rfl (hx.s 84 rfl) (by decide) (hx.n (by decide)) (hx.r 84 0 85 rfl) ?_
  refine a_iload_n (pc := 11) (i := 1) dX6_becomes_11 rfl rfl ?_
  refine a_iload_n (pc := 12) (i := 2) dX6_becomes_12 rfl rfl ?_
  refine a_iastN (pc := 13) dX6_becomes_13 (hx.s 85 rfl) (by decide) (hx.n (by decide)) (k := k) rfl ⟨hk, by decide⟩ ?_
  refine a_iload_n (pc := 14) (i := 3) dX6_becomes_14 rfl rfl ?_
  exact a_iret (pc := 15) dX6_becomes_15 rfl (rI_of rfl rfl)
theorem c_mRoadOf {g : Gl} {h : AH} (hx : Fx h) (i j : Nat) (hi : i ≤ 7) (hj : j ≤ 7) : AM g 1 mX6_roadOf [.ref 84, .int (nI i), .int (nI j)] h (rI (gI h 85 (8 + 8 * i + j)) h) := by
  refine AM.of (by decide) (Nat.le_of_ble_eq_true rfl) ?_
  show AW g mX6_roadOf 1 _ 0 [some (.ref 84), some (.int (nI i)), some (.int (nI j))] [] h
  refine a_aload_n (pc := 0) (i := 0) dX6_roadOf_0 rfl rfl ?_
  refine a_getR (pc := 1) dX6_roadOf_1 fX6_7_6 rfl (hx.s 84 rfl) (by decide) (hx.n (by decide)) (hx.r 84 0 85 rfl) ?_
  refine a_bipush (pc := 4) (v := 8) dX6_roadOf_4 (by decide) ?_
  refine a_bipush (pc := 6) (v := 8) dX6_roadOf_6 (by decide) ?_
  refine a_iload_n (pc := 8) (i := 1) dX6_roadOf_8 rfl rfl ?_
  refine a_imul (pc := 9) dX6_roadOf_9 ?_
  refine a_iadd (pc := 10) dX6_roadOf_10 ?_
  refine a_iload_n (pc := 11) (i := 2) dX6_roadOf_11 rfl rfl ?_
  refine a_iadd (pc := 12) dX6_roadOf_12 ?_
  refine a_ialdN (pc := 13) dX6_roadOf_13 (hx.s 85 rfl) (by decide) (hx.n (by decide)) (k := 8 + 8 * i + j) (ix88 i j) ⟨by omega, by decide⟩ ?_
  exact a_iret (pc := 14) dX6_roadOf_14 rfl (rI_of rfl rfl)
theorem c_errs {g : Gl} {h : AH} (hx : Fx h) (c : Nat) (hc : c < 6) : AM g 1 mX6_errs [.ref 84, .int (-1000000000 - nI c)] h (rI (mErr h c).1 (mErr h c).2) := by
  refine AM.of (by decide) (Nat.le_of_ble_eq_true rfl) ?_
  show AW g mX6_errs 1 _ 0 [some (.ref 84), some (.int (-1000000000 - nI c))] [] h
  refine a_aload_n (pc := 0) (i := 0) dX6_errs_0 rfl rfl ?_
  refine a_getR (pc := 1) dX6_errs_1 fX6_19_6 rfl (hx.s 84 rfl) (by decide) (hx.n (by decide)) (hx.r 84 3 88 rfl) ?_
  refine a_ldc (pc := 4) dX6_errs_4 q1527 ?_
  refine a_iload_n (pc := 6) (i := 1) dX6_errs_6 rfl rfl ?_
  refine a_isub (pc := 7) dX6_errs_7 ?_
  have e : (-1000000000 : Int32) - (-1000000000 - nI c) = nI c := by grind
  rw [e]
  refine a_dup2 (pc := 8) dX6_errs_8 rfl rfl ?_
  refine a_ialdN (pc := 9) dX6_errs_9 (hx.s 88 rfl) (by decide) (hx.n (by decide)) (k := c) rfl ⟨hc, by decide⟩ ?_
  refine a_iconst (pc := 10) (v := 1) dX6_errs_10 (by decide) ?_
  refine a_iadd (pc := 11) dX6_errs_11 ?_
  refine a_iastN (pc := 12) dX6_errs_12 (hx.s 88 rfl) (by decide) (hx.n (by decide)) (k := c) rfl ⟨hc, by decide⟩ ?_
  refine a_iload_n (pc := 13) (i := 1) dX6_errs_13 rfl rfl ?_
  exact a_iret (pc := 14) dX6_errs_14 rfl (rI_of rfl rfl)
theorem c_mIsPerson {g : Gl} {h : AH} (hx : Fx h) (p : Int32) : AM g 2 mX6_isPerson [.ref 84, .int p] h (rI (bI (0 ≤ p ∧ p ≤ gI h 85 139 - 1)) h) := by
  refine AM.of (by decide) (Nat.le_of_ble_eq_true rfl) ?_
  show AW g mX6_isPerson 2 _ 0 [some (.ref 84), some (.int p)] [] h
  refine a_iload_n (pc := 0) (i := 1) dX6_isPerson_0 rfl rfl ?_
  refine a_i2l (pc := 1) dX6_isPerson_1 ?_
  refine a_lconst (pc := 2) (v := 0) dX6_isPerson_2 (by decide) ?_
  refine a_aload_n (pc := 3) (i := 0) dX6_isPerson_3 rfl rfl ?_
  refine a_getR (pc := 4) dX6_isPerson_4 fX6_7_6 rfl (hx.s 84 rfl) (by decide) (hx.n (by decide)) (hx.r 84 0 85 rfl) ?_
  refine a_sipush (pc := 7) (v := 139) dX6_isPerson_7 (by decide) ?_
  refine a_ialdN (pc := 10) dX6_isPerson_10 (hx.s 85 rfl) (by decide) (hx.n (by decide)) (k := 139) rfl (by decide) ?_
  refine a_iconst (pc := 11) (v := 1) dX6_isPerson_11 (by decide) ?_
  refine a_isub (pc := 12) dX6_isPerson_12 ?_
  refine a_i2l (pc := 13) dX6_isPerson_13 ?_
  refine a_cSi (pc := 14) (c_mInc _ 0 _ _ _ (by decide) rfl) sX6_46 dX6_isPerson_14 rfl rfl (by decide) (Nat.le_of_ble_eq_true rfl) ?_
  exact a_zret (pc := 17) dX6_isPerson_17 rfl nar_bI (rI_of rfl rfl)
theorem c_mWater {g : Gl} {h : AH} (hx : Fx h) (w v : Int32) : AM g 4 mX6_water [.ref 84, .int w, .int v] h (rI (mWater h w v).1 (mWater h w v).2) := by
  refine AM.of (by decide) (Nat.le_of_ble_eq_true rfl) ?_
  show AW g mX6_water 4 _ 0 [some (.ref 84), some (.int w), some (.int v)] [] h
  refine a_iload_n (pc := 0) (i := 1) dX6_water_0 rfl rfl ?_
  refine a_cSi (pc := 1) (c_mIsWell _) sX6_58 dX6_water_1 rfl rfl (by decide) (Nat.le_of_ble_eq_true rfl) ?_
  refine a_if_eq (pc := 4) (tgt := 30) dX6_water_4 (by decide) (fun c4 => ?_) (fun c4 => ?_)
  · skip
    refine a_aload_n (pc := 30) (i := 0) dX6_water_30 rfl rfl ?_
    refine a_ldc (pc := 31) dX6_water_31 q1522 ?_
    refine a_cVi (pc := 33) (c_errs (by exact hx) 1 (by decide)) sX6_68_6 dX6_water_33 (recv_obj (t := 6) rfl (hx.s 84 rfl) (by decide) (hx.n (by decide))) rfl rfl (by decide) (Nat.le_of_ble_eq_true rfl) ?_
    exact a_iret (pc := 36) dX6_water_36 rfl (rI_p2 (by grind [mWater, bI]))
  · skip
    refine a_iload_n (pc := 7) (i := 2) dX6_water_7 rfl rfl ?_
    refine a_i2l (pc := 8) dX6_water_8 ?_
    refine a_lconst (pc := 9) (v := 0) dX6_water_9 (by decide) ?_
    refine a_ldc2 (pc := 10) dX6_water_10 q1517 ?_
    refine a_cSi (pc := 13) (c_mInc _ 0 99 _ _ (by decide) (by decide)) sX6_46 dX6_water_13 rfl rfl (by decide) (Nat.le_of_ble_eq_true rfl) ?_
    refine a_if_eq (pc := 16) (tgt := 30) dX6_water_16 (by decide) (fun c16 => ?_) (fun c16 => ?_)
    · skip
      refine a_aload_n (pc := 30) (i := 0) dX6_water_30 rfl rfl ?_
      refine a_ldc (pc := 31) dX6_water_31 q1522 ?_
      refine a_cVi (pc := 33) (c_errs (by exact hx) 1 (by decide)) sX6_68_6 dX6_water_33 (recv_obj (t := 6) rfl (hx.s 84 rfl) (by decide) (hx.n (by decide))) rfl rfl (by decide) (Nat.le_of_ble_eq_true rfl) ?_
      exact a_iret (pc := 36) dX6_water_36 rfl (rI_p2 (by grind [mWater, bI]))
    · skip
      obtain ⟨j, hj, rfl⟩ := nI_ex (bI_n.mp c4) (n := 7) rfl
      have tj : tn (nI j) = j := tn_nI (by omega)
      refine a_aload_n (pc := 19) (i := 0) dX6_water_19 rfl rfl ?_
      refine a_iconst (pc := 20) (v := 0) dX6_water_20 (by decide) ?_
      refine a_iload_n (pc := 21) (i := 1) dX6_water_21 rfl rfl ?_
      refine a_iadd (pc := 22) dX6_water_22 ?_
      refine a_iload_n (pc := 23) (i := 2) dX6_water_23 rfl rfl ?_
      refine a_cVi (pc := 24) (c_mBecomes (by exact hx) (j) (by omega) _ (Int32.zero_add _)) sX6_64_6 dX6_water_24 (recv_obj (t := 6) rfl (hx.s 84 rfl) (by decide) (hx.n (by decide))) rfl rfl (by decide) (Nat.le_of_ble_eq_true rfl) ?_
      refine a_goto (pc := 27) (tgt := 36) dX6_water_27 (by decide) ?_
      exact a_iret (pc := 36) dX6_water_36 rfl (rI_p (by grind [mWater, bI, gI_pI]))
theorem c_mRoad {g : Gl} {h : AH} (hx : Fx h) (a b v : Int32) : AM g 4 mX6_road [.ref 84, .int a, .int b, .int v] h (rI (mRoad h a b v).1 (mRoad h a b v).2) := by
  refine AM.of (by decide) (Nat.le_of_ble_eq_true rfl) ?_
  show AW g mX6_road 4 _ 0 [some (.ref 84), some (.int a), some (.int b), some (.int v)] [] h
  refine a_iload_n (pc := 0) (i := 1) dX6_road_0 rfl rfl ?_
  refine a_cSi (pc := 1) (c_mIsWell _) sX6_58 dX6_road_1 rfl rfl (by decide) (Nat.le_of_ble_eq_true rfl) ?_
  refine a_if_eq (pc := 4) (tgt := 31) dX6_road_4 (by decide) (fun c4 => ?_) (fun c4 => ?_)
  · skip
    refine a_aload_n (pc := 31) (i := 0) dX6_road_31 rfl rfl ?_
    refine a_ldc (pc := 32) dX6_road_32 q1522 ?_
    refine a_cVi (pc := 34) (c_errs (by exact hx) 1 (by decide)) sX6_68_6 dX6_road_34 (recv_obj (t := 6) rfl (hx.s 84 rfl) (by decide) (hx.n (by decide))) rfl rfl (by decide) (Nat.le_of_ble_eq_true rfl) ?_
    exact a_iret (pc := 37) dX6_road_37 rfl (rI_p2 (by grind [mRoad, bI]))
  · skip
    refine a_iload_n (pc := 7) (i := 2) dX6_road_7 rfl rfl ?_
    refine a_cSi (pc := 8) (c_mIsWell _) sX6_58 dX6_road_8 rfl rfl (by decide) (Nat.le_of_ble_eq_true rfl) ?_
    refine a_if_eq (pc := 11) (tgt := 31) dX6_road_11 (by decide) (fun c11 => ?_) (fun c11 => ?_)
    · skip
      refine a_aload_n (pc := 31) (i := 0) dX6_road_31 rfl rfl ?_
      refine a_ldc (pc := 32) dX6_road_32 q1522 ?_
      refine a_cVi (pc := 34) (c_errs (by exact hx) 1 (by decide)) sX6_68_6 dX6_road_34 (recv_obj (t := 6) rfl (hx.s 84 rfl) (by decide) (hx.n (by decide))) rfl rfl (by decide) (Nat.le_of_ble_eq_true rfl) ?_
      exact a_iret (pc := 37) dX6_road_37 rfl (rI_p2 (by grind [mRoad, bI]))
    · skip
      refine a_iload_n (pc := 14) (i := 1) dX6_road_14 rfl rfl ?_
      refine a_iload_n (pc := 15) (i := 2) dX6_road_15 rfl rfl ?_
      refine a_icmp_eq (pc := 16) (tgt := 31) dX6_road_16 (by decide) (fun c16 => ?_) (fun c16 => ?_)
      · skip
        refine a_aload_n (pc := 31) (i := 0) dX6_road_31 rfl rfl ?_
        refine a_ldc (pc := 32) dX6_road_32 q1522 ?_
        refine a_cVi (pc := 34) (c_errs (by exact hx) 1 (by decide)) sX6_68_6 dX6_road_34 (recv_obj (t := 6) rfl (hx.s 84 rfl) (by decide) (hx.n (by decide))) rfl rfl (by decide) (Nat.le_of_ble_eq_true rfl) ?_
        exact a_iret (pc := 37) dX6_road_37 rfl (rI_p2 (by grind [mRoad, bI]))
      · skip
        refine a_iload_n (pc := 19) (i := 3) dX6_road_19 rfl rfl ?_
        refine a_i2l (pc := 20) dX6_road_20 ?_
        refine a_lconst (pc := 21) (v := 0) dX6_road_21 (by decide) ?_
        refine a_ldc2 (pc := 22) dX6_road_22 q1532 ?_
        refine a_cSi (pc := 25) (c_mInc _ 0 20 _ _ (by decide) (by decide)) sX6_46 dX6_road_25 rfl rfl (by decide) (Nat.le_of_ble_eq_true rfl) ?_
        refine a_if_ne (pc := 28) (tgt := 38) dX6_road_28 (by decide) (fun c28 => ?_) (fun c28 => ?_)
        · skip
          obtain ⟨i, hi, rfl⟩ := nI_ex (bI_n.mp c4) (n := 7) rfl
          have ti : tn (nI i) = i := tn_nI (by omega)
          obtain ⟨j, hj, rfl⟩ := nI_ex (bI_n.mp c11) (n := 7) rfl
          have tj : tn (nI j) = j := tn_nI (by omega)
          refine a_aload_n (pc := 38) (i := 0) dX6_road_38 rfl rfl ?_
          refine a_getR (pc := 39) dX6_road_39 fX6_7_6 rfl (hx.s 84 rfl) (by decide) (hx.n (by decide)) (hx.r 84 0 85 rfl) ?_
          refine a_bipush (pc := 42) (v := 8) dX6_road_42 (by decide) ?_
          refine a_bipush (pc := 44) (v := 8) dX6_road_44 (by decide) ?_
          refine a_iload_n (pc := 46) (i := 2) dX6_road_46 rfl rfl ?_
          refine a_imul (pc := 47) dX6_road_47 ?_
          refine a_iadd (pc := 48) dX6_road_48 ?_
          refine a_iload_n (pc := 49) (i := 1) dX6_road_49 rfl rfl ?_
          refine a_iadd (pc := 50) dX6_road_50 ?_
          refine a_iload_n (pc := 51) (i := 3) dX6_road_51 rfl rfl ?_
          refine a_iastN (pc := 52) dX6_road_52 (hx.s 85 rfl) (by decide) (hx.n (by decide)) (k := 8 + 8 * j + i) (ix88 j i) ⟨by omega, by decide⟩ ?_
          refine a_aload_n (pc := 53) (i := 0) dX6_road_53 rfl rfl ?_
          refine a_bipush (pc := 54) (v := 8) dX6_road_54 (by decide) ?_
          refine a_bipush (pc := 56) (v := 8) dX6_road_56 (by decide) ?_
          refine a_iload_n (pc := 58) (i := 1) dX6_road_58 rfl rfl ?_
          refine a_imul (pc := 59) dX6_road_59 ?_
          refine a_iadd (pc := 60) dX6_road_60 ?_
          refine a_iload_n (pc := 61) (i := 2) dX6_road_61 rfl rfl ?_
          refine a_iadd (pc := 62) dX6_road_62 ?_
          refine a_iload_n (pc := 63) (i := 3) dX6_road_63 rfl rfl ?_
          refine a_cVi (pc := 64) (c_mBecomes (by exact hx) (8 + 8 * i + j) (by omega) _ (ix88 i j)) sX6_64_6 dX6_road_64 (recv_obj (t := 6) rfl (hx.s 84 rfl) (by decide) (hx.n (by decide))) rfl rfl (by decide) (Nat.le_of_ble_eq_true rfl) ?_
          exact a_iret (pc := 67) dX6_road_67 rfl (rI_p (by grind [mRoad, bI, gI_pI]))
        · skip
          refine a_aload_n (pc := 31) (i := 0) dX6_road_31 rfl rfl ?_
          refine a_ldc (pc := 32) dX6_road_32 q1522 ?_
          refine a_cVi (pc := 34) (c_errs (by exact hx) 1 (by decide)) sX6_68_6 dX6_road_34 (recv_obj (t := 6) rfl (hx.s 84 rfl) (by decide) (hx.n (by decide))) rfl rfl (by decide) (Nat.le_of_ble_eq_true rfl) ?_
          exact a_iret (pc := 37) dX6_road_37 rfl (rI_p2 (by grind [mRoad, bI]))
theorem c_mOwe {g : Gl} {h : AH} (hx : Fx h) (a b v : Int32) : AM g 4 mX6_owe [.ref 84, .int a, .int b, .int v] h (rI (mOwe h a b v).1 (mOwe h a b v).2) := by
  refine AM.of (by decide) (Nat.le_of_ble_eq_true rfl) ?_
  show AW g mX6_owe 4 _ 0 [some (.ref 84), some (.int a), some (.int b), some (.int v)] [] h
  refine a_iload_n (pc := 0) (i := 1) dX6_owe_0 rfl rfl ?_
  refine a_cSi (pc := 1) (c_mIsWell _) sX6_58 dX6_owe_1 rfl rfl (by decide) (Nat.le_of_ble_eq_true rfl) ?_
  refine a_if_eq (pc := 4) (tgt := 48) dX6_owe_4 (by decide) (fun c4 => ?_) (fun c4 => ?_)
  · skip
    refine a_aload_n (pc := 48) (i := 0) dX6_owe_48 rfl rfl ?_
    refine a_ldc (pc := 49) dX6_owe_49 q1522 ?_
    refine a_cVi (pc := 51) (c_errs (by exact hx) 1 (by decide)) sX6_68_6 dX6_owe_51 (recv_obj (t := 6) rfl (hx.s 84 rfl) (by decide) (hx.n (by decide))) rfl rfl (by decide) (Nat.le_of_ble_eq_true rfl) ?_
    exact a_iret (pc := 54) dX6_owe_54 rfl (rI_p2 (by grind [mOwe, bI]))
  · skip
    refine a_iload_n (pc := 7) (i := 2) dX6_owe_7 rfl rfl ?_
    refine a_cSi (pc := 8) (c_mIsWell _) sX6_58 dX6_owe_8 rfl rfl (by decide) (Nat.le_of_ble_eq_true rfl) ?_
    refine a_if_eq (pc := 11) (tgt := 48) dX6_owe_11 (by decide) (fun c11 => ?_) (fun c11 => ?_)
    · skip
      refine a_aload_n (pc := 48) (i := 0) dX6_owe_48 rfl rfl ?_
      refine a_ldc (pc := 49) dX6_owe_49 q1522 ?_
      refine a_cVi (pc := 51) (c_errs (by exact hx) 1 (by decide)) sX6_68_6 dX6_owe_51 (recv_obj (t := 6) rfl (hx.s 84 rfl) (by decide) (hx.n (by decide))) rfl rfl (by decide) (Nat.le_of_ble_eq_true rfl) ?_
      exact a_iret (pc := 54) dX6_owe_54 rfl (rI_p2 (by grind [mOwe, bI]))
    · skip
      refine a_iload_n (pc := 14) (i := 1) dX6_owe_14 rfl rfl ?_
      refine a_iload_n (pc := 15) (i := 2) dX6_owe_15 rfl rfl ?_
      refine a_icmp_eq (pc := 16) (tgt := 48) dX6_owe_16 (by decide) (fun c16 => ?_) (fun c16 => ?_)
      · skip
        refine a_aload_n (pc := 48) (i := 0) dX6_owe_48 rfl rfl ?_
        refine a_ldc (pc := 49) dX6_owe_49 q1522 ?_
        refine a_cVi (pc := 51) (c_errs (by exact hx) 1 (by decide)) sX6_68_6 dX6_owe_51 (recv_obj (t := 6) rfl (hx.s 84 rfl) (by decide) (hx.n (by decide))) rfl rfl (by decide) (Nat.le_of_ble_eq_true rfl) ?_
        exact a_iret (pc := 54) dX6_owe_54 rfl (rI_p2 (by grind [mOwe, bI]))
      · skip
        refine a_iload_n (pc := 19) (i := 3) dX6_owe_19 rfl rfl ?_
        refine a_i2l (pc := 20) dX6_owe_20 ?_
        refine a_lconst (pc := 21) (v := 0) dX6_owe_21 (by decide) ?_
        refine a_ldc2 (pc := 22) dX6_owe_22 q1537 ?_
        refine a_cSi (pc := 25) (c_mInc _ 0 9999 _ _ (by decide) (by decide)) sX6_46 dX6_owe_25 rfl rfl (by decide) (Nat.le_of_ble_eq_true rfl) ?_
        refine a_if_eq (pc := 28) (tgt := 48) dX6_owe_28 (by decide) (fun c28 => ?_) (fun c28 => ?_)
        · skip
          refine a_aload_n (pc := 48) (i := 0) dX6_owe_48 rfl rfl ?_
          refine a_ldc (pc := 49) dX6_owe_49 q1522 ?_
          refine a_cVi (pc := 51) (c_errs (by exact hx) 1 (by decide)) sX6_68_6 dX6_owe_51 (recv_obj (t := 6) rfl (hx.s 84 rfl) (by decide) (hx.n (by decide))) rfl rfl (by decide) (Nat.le_of_ble_eq_true rfl) ?_
          exact a_iret (pc := 54) dX6_owe_54 rfl (rI_p2 (by grind [mOwe, bI]))
        · skip
          obtain ⟨i, hi, rfl⟩ := nI_ex (bI_n.mp c4) (n := 7) rfl
          have ti : tn (nI i) = i := tn_nI (by omega)
          obtain ⟨j, hj, rfl⟩ := nI_ex (bI_n.mp c11) (n := 7) rfl
          have tj : tn (nI j) = j := tn_nI (by omega)
          refine a_aload_n (pc := 31) (i := 0) dX6_owe_31 rfl rfl ?_
          refine a_bipush (pc := 32) (v := 72) dX6_owe_32 (by decide) ?_
          refine a_bipush (pc := 34) (v := 8) dX6_owe_34 (by decide) ?_
          refine a_iload_n (pc := 36) (i := 1) dX6_owe_36 rfl rfl ?_
          refine a_imul (pc := 37) dX6_owe_37 ?_
          refine a_iadd (pc := 38) dX6_owe_38 ?_
          refine a_iload_n (pc := 39) (i := 2) dX6_owe_39 rfl rfl ?_
          refine a_iadd (pc := 40) dX6_owe_40 ?_
          refine a_iload_n (pc := 41) (i := 3) dX6_owe_41 rfl rfl ?_
          refine a_cVi (pc := 42) (c_mBecomes (by exact hx) (72 + 8 * i + j) (by omega) _ (ix72 i j)) sX6_64_6 dX6_owe_42 (recv_obj (t := 6) rfl (hx.s 84 rfl) (by decide) (hx.n (by decide))) rfl rfl (by decide) (Nat.le_of_ble_eq_true rfl) ?_
          refine a_goto (pc := 45) (tgt := 54) dX6_owe_45 (by decide) ?_
          exact a_iret (pc := 54) dX6_owe_54 rfl (rI_p (by grind [mOwe, bI, gI_pI]))
theorem c_mRain {g : Gl} {h : AH} (hx : Fx h) (v : Int32) : AM g 4 mX6_rain [.ref 84, .int v] h (rI (mRain h v).1 (mRain h v).2) := by
  refine AM.of (by decide) (Nat.le_of_ble_eq_true rfl) ?_
  show AW g mX6_rain 4 _ 0 [some (.ref 84), some (.int v)] [] h
  refine a_iload_n (pc := 0) (i := 1) dX6_rain_0 rfl rfl ?_
  refine a_i2l (pc := 1) dX6_rain_1 ?_
  refine a_lconst (pc := 2) (v := 0) dX6_rain_2 (by decide) ?_
  refine a_ldc2 (pc := 3) dX6_rain_3 q1570 ?_
  refine a_cSi (pc := 6) (c_mInc _ 0 9 _ _ (by decide) (by decide)) sX6_46 dX6_rain_6 rfl rfl (by decide) (Nat.le_of_ble_eq_true rfl) ?_
  refine a_if_eq (pc := 9) (tgt := 23) dX6_rain_9 (by decide) (fun c9 => ?_) (fun c9 => ?_)
  · skip
    refine a_aload_n (pc := 23) (i := 0) dX6_rain_23 rfl rfl ?_
    refine a_ldc (pc := 24) dX6_rain_24 q1522 ?_
    refine a_cVi (pc := 26) (c_errs (by exact hx) 1 (by decide)) sX6_68_6 dX6_rain_26 (recv_obj (t := 6) rfl (hx.s 84 rfl) (by decide) (hx.n (by decide))) rfl rfl (by decide) (Nat.le_of_ble_eq_true rfl) ?_
    exact a_iret (pc := 29) dX6_rain_29 rfl (rI_p2 (by grind [mRain, bI]))
  · skip
    refine a_aload_n (pc := 12) (i := 0) dX6_rain_12 rfl rfl ?_
    refine a_sipush (pc := 13) (v := 136) dX6_rain_13 (by decide) ?_
    refine a_iload_n (pc := 16) (i := 1) dX6_rain_16 rfl rfl ?_
    refine a_cVi (pc := 17) (c_mBecomes (by exact hx) (136) (by decide) _ rfl) sX6_64_6 dX6_rain_17 (recv_obj (t := 6) rfl (hx.s 84 rfl) (by decide) (hx.n (by decide))) rfl rfl (by decide) (Nat.le_of_ble_eq_true rfl) ?_
    refine a_goto (pc := 20) (tgt := 29) dX6_rain_20 (by decide) ?_
    exact a_iret (pc := 29) dX6_rain_29 rfl (rI_p (by grind [mRain, bI, gI_pI]))
theorem c_mSeed {g : Gl} {h : AH} (hx : Fx h) (v : Int32) : AM g 4 mX6_seed [.ref 84, .int v] h (rI (mSeed h v).1 (mSeed h v).2) := by
  refine AM.of (by decide) (Nat.le_of_ble_eq_true rfl) ?_
  show AW g mX6_seed 4 _ 0 [some (.ref 84), some (.int v)] [] h
  refine a_aload_n (pc := 0) (i := 0) dX6_seed_0 rfl rfl ?_
  refine a_sipush (pc := 1) (v := 176) dX6_seed_1 (by decide) ?_
  refine a_iload_n (pc := 4) (i := 1) dX6_seed_4 rfl rfl ?_
  refine a_cVi (pc := 5) (c_mBecomes (by exact hx) (176) (by decide) _ rfl) sX6_64_6 dX6_seed_5 (recv_obj (t := 6) rfl (hx.s 84 rfl) (by decide) (hx.n (by decide))) rfl rfl (by decide) (Nat.le_of_ble_eq_true rfl) ?_
  exact a_iret (pc := 8) dX6_seed_8 rfl (rI_p (by grind [mSeed, bI, gI_pI]))
theorem c_mTold {g : Gl} {h : AH} (hx : Fx h) (k : Int32) : AM g 4 mX6_told [.ref 84, .int k] h (rI (mTold h k).1 (mTold h k).2) := by
  refine AM.of (by decide) (Nat.le_of_ble_eq_true rfl) ?_
  show AW g mX6_told 4 _ 0 [some (.ref 84), some (.int k)] [] h
  refine a_iload_n (pc := 0) (i := 1) dX6_told_0 rfl rfl ?_
  refine a_i2l (pc := 1) dX6_told_1 ?_
  refine a_lconst (pc := 2) (v := 1) dX6_told_2 (by decide) ?_
  refine a_ldc2 (pc := 3) dX6_told_3 q1935 ?_
  refine a_cSi (pc := 6) (c_mInc _ 1 5 _ _ (by decide) (by decide)) sX6_46 dX6_told_6 rfl rfl (by decide) (Nat.le_of_ble_eq_true rfl) ?_
  refine a_if_eq (pc := 9) (tgt := 21) dX6_told_9 (by decide) (fun c9 => ?_) (fun c9 => ?_)
  · skip
    refine a_aload_n (pc := 21) (i := 0) dX6_told_21 rfl rfl ?_
    refine a_ldc (pc := 22) dX6_told_22 q1522 ?_
    refine a_cVi (pc := 24) (c_errs (by exact hx) 1 (by decide)) sX6_68_6 dX6_told_24 (recv_obj (t := 6) rfl (hx.s 84 rfl) (by decide) (hx.n (by decide))) rfl rfl (by decide) (Nat.le_of_ble_eq_true rfl) ?_
    exact a_iret (pc := 27) dX6_told_27 rfl (rI_p2 (by grind [mTold, bI]))
  · skip
    obtain ⟨j, hj, rfl⟩ := nI_ex (w := k) (M := 5) ⟨by grind [bI], by grind [bI]⟩ (n := 5) rfl
    have tj : tn (nI j) = j := tn_nI (by omega)
    refine a_aload_n (pc := 12) (i := 0) dX6_told_12 rfl rfl ?_
    refine a_getR (pc := 13) dX6_told_13 fX6_19_6 rfl (hx.s 84 rfl) (by decide) (hx.n (by decide)) (hx.r 84 3 88 rfl) ?_
    refine a_iload_n (pc := 16) (i := 1) dX6_told_16 rfl rfl ?_
    refine a_ialdN (pc := 17) dX6_told_17 (hx.s 88 rfl) (by decide) (hx.n (by decide)) (k := j) rfl ⟨by omega, by decide⟩ ?_
    refine a_goto (pc := 18) (tgt := 27) dX6_told_18 (by decide) ?_
    exact a_iret (pc := 27) dX6_told_27 rfl (rI_p (by grind [mTold, bI, gI_pI]))
theorem c_mTrace {g : Gl} {h : AH} (hx : Fx h) (i : Int32) (hm : ∃ n : Nat, n ≤ 40 ∧ gI h 84 17 = nI n) : AM g 4 mX6_trace [.ref 84, .int i] h (rI (mTrace h i).1 (mTrace h i).2) := by
  refine AM.of (by decide) (Nat.le_of_ble_eq_true rfl) ?_
  show AW g mX6_trace 4 _ 0 [some (.ref 84), some (.int i)] [] h
  refine a_iload_n (pc := 0) (i := 1) dX6_trace_0 rfl rfl ?_
  refine a_i2l (pc := 1) dX6_trace_1 ?_
  refine a_lconst (pc := 2) (v := 0) dX6_trace_2 (by decide) ?_
  refine a_aload_n (pc := 3) (i := 0) dX6_trace_3 rfl rfl ?_
  refine a_getI (pc := 4) dX6_trace_4 fX6_265_6 rfl (hx.s 84 rfl) (by decide) (hx.n (by decide)) ?_
  refine a_iconst (pc := 7) (v := 1) dX6_trace_7 (by decide) ?_
  refine a_isub (pc := 8) dX6_trace_8 ?_
  refine a_i2l (pc := 9) dX6_trace_9 ?_
  refine a_cSi (pc := 10) (c_mInc _ 0 _ _ _ (by decide) rfl) sX6_46 dX6_trace_10 rfl rfl (by decide) (Nat.le_of_ble_eq_true rfl) ?_
  refine a_if_eq (pc := 13) (tgt := 25) dX6_trace_13 (by decide) (fun c13 => ?_) (fun c13 => ?_)
  · skip
    refine a_aload_n (pc := 25) (i := 0) dX6_trace_25 rfl rfl ?_
    refine a_ldc (pc := 26) dX6_trace_26 q1773 ?_
    refine a_cVi (pc := 28) (c_errs (by exact hx) 2 (by decide)) sX6_68_6 dX6_trace_28 (recv_obj (t := 6) rfl (hx.s 84 rfl) (by decide) (hx.n (by decide))) rfl rfl (by decide) (Nat.le_of_ble_eq_true rfl) ?_
    exact a_iret (pc := 31) dX6_trace_31 rfl (rI_p2 (by grind [mTrace, bI]))
  · skip
    obtain ⟨j, hj, rfl⟩ := nI_lt1 hm (bI_n.mp c13)
    have tj : tn (nI j) = j := tn_nI (by omega)
    refine a_aload_n (pc := 16) (i := 0) dX6_trace_16 rfl rfl ?_
    refine a_getR (pc := 17) dX6_trace_17 fX6_28_6 rfl (hx.s 84 rfl) (by decide) (hx.n (by decide)) (hx.r 84 16 91 rfl) ?_
    refine a_iload_n (pc := 20) (i := 1) dX6_trace_20 rfl rfl ?_
    refine a_ialdN (pc := 21) dX6_trace_21 (hx.s 91 rfl) (by decide) (hx.n (by decide)) (k := j) rfl ⟨by omega, by decide⟩ ?_
    refine a_goto (pc := 22) (tgt := 31) dX6_trace_22 (by decide) ?_
    exact a_iret (pc := 31) dX6_trace_31 rfl (rI_p (by grind [mTrace, bI, gI_pI]))
theorem c_mTell {g : Gl} {h : AH} (hx : Fx h) (v : Int32) (n : Nat) (hn : n ≤ 20) (hm : gI h 85 178 = nI n) : AM g 4 mX6_tell [.ref 84, .int v] h (rI (mTell h v).1 (mTell h v).2) := by
  refine AM.of (by decide) (Nat.le_of_ble_eq_true rfl) ?_
  show AW g mX6_tell 4 _ 0 [some (.ref 84), some (.int v)] [] h
  have tnn : tn (gI h 85 178) = n := by rw [hm]; exact tn_nI (by omega)
  refine a_aload_n (pc := 0) (i := 0) dX6_tell_0 rfl rfl ?_
  refine a_getR (pc := 1) dX6_tell_1 fX6_7_6 rfl (hx.s 84 rfl) (by decide) (hx.n (by decide)) (hx.r 84 0 85 rfl) ?_
  refine a_sipush (pc := 4) (v := 178) dX6_tell_4 (by decide) ?_
  refine a_ialdN (pc := 7) dX6_tell_7 (hx.s 85 rfl) (by decide) (hx.n (by decide)) (k := 178) rfl (by decide) ?_
  refine a_bipush (pc := 8) (v := 20) dX6_tell_8 (by decide) ?_
  refine a_icmp_ne (pc := 10) (tgt := 20) dX6_tell_10 (by decide) (fun c10 => ?_) (fun c10 => ?_)
  · skip
    have hlt : n < 20 := by
      rcases Nat.lt_or_ge n 20 with q | q
      · exact q
      · exact absurd (by rw [hm, show n = 20 by omega]; rfl) c10
    refine a_aload_n (pc := 20) (i := 0) dX6_tell_20 rfl rfl ?_
    refine a_getR (pc := 21) dX6_tell_21 fX6_7_6 rfl (hx.s 84 rfl) (by decide) (hx.n (by decide)) (hx.r 84 0 85 rfl) ?_
    refine a_sipush (pc := 24) (v := 331) dX6_tell_24 (by decide) ?_
    refine a_aload_n (pc := 27) (i := 0) dX6_tell_27 rfl rfl ?_
    refine a_getR (pc := 28) dX6_tell_28 fX6_7_6 rfl (hx.s 84 rfl) (by decide) (hx.n (by decide)) (hx.r 84 0 85 rfl) ?_
    refine a_sipush (pc := 31) (v := 178) dX6_tell_31 (by decide) ?_
    refine a_ialdN (pc := 34) dX6_tell_34 (hx.s 85 rfl) (by decide) (hx.n (by decide)) (k := 178) rfl (by decide) ?_
    refine a_iadd (pc := 35) dX6_tell_35 ?_
    refine a_iload_n (pc := 36) (i := 1) dX6_tell_36 rfl rfl ?_
    refine a_iastN (pc := 37) dX6_tell_37 (hx.s 85 rfl) (by decide) (hx.n (by decide)) (k := 331 + n) (by rw [hm]; exact ix331 n) ⟨by omega, by decide⟩ ?_
    refine a_aload_n (pc := 38) (i := 0) dX6_tell_38 rfl rfl ?_
    refine a_getR (pc := 39) dX6_tell_39 fX6_7_6 rfl (hx.s 84 rfl) (by decide) (hx.n (by decide)) (hx.r 84 0 85 rfl) ?_
    refine a_sipush (pc := 42) (v := 178) dX6_tell_42 (by decide) ?_
    refine a_dup2 (pc := 45) dX6_tell_45 rfl rfl ?_
    refine a_ialdN (pc := 46) dX6_tell_46 (hx.s 85 rfl) (by decide) (hx.n (by decide)) (k := 178) rfl (by decide) ?_
    refine a_iconst (pc := 47) (v := 1) dX6_tell_47 (by decide) ?_
    refine a_iadd (pc := 48) dX6_tell_48 ?_
    refine a_iastN (pc := 49) dX6_tell_49 (hx.s 85 rfl) (by decide) (hx.n (by decide)) (k := 178) rfl (by decide) ?_
    refine a_aload_n (pc := 50) (i := 0) dX6_tell_50 rfl rfl ?_
    refine a_getR (pc := 51) dX6_tell_51 fX6_7_6 rfl (hx.s 84 rfl) (by decide) (hx.n (by decide)) (hx.r 84 0 85 rfl) ?_
    refine a_sipush (pc := 54) (v := 178) dX6_tell_54 (by decide) ?_
    refine a_ialdN (pc := 57) dX6_tell_57 (hx.s 85 rfl) (by decide) (hx.n (by decide)) (k := 178) rfl (by decide) ?_
    exact a_iret (pc := 58) dX6_tell_58 rfl (rI_p (by grind [mTell, bI, gI_pI]))
  · skip
    refine a_aload_n (pc := 13) (i := 0) dX6_tell_13 rfl rfl ?_
    refine a_ldc (pc := 14) dX6_tell_14 q1579 ?_
    refine a_cVi (pc := 16) (c_errs (by exact hx) 4 (by decide)) sX6_68_6 dX6_tell_16 (recv_obj (t := 6) rfl (hx.s 84 rfl) (by decide) (hx.n (by decide))) rfl rfl (by decide) (Nat.le_of_ble_eq_true rfl) ?_
    exact a_iret (pc := 19) dX6_tell_19 rfl (rI_p2 (by grind [mTell, bI]))
