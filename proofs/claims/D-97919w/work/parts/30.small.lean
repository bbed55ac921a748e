/-! ===== small helpers (printed by gen/p30.py) ===== -/
theorem c_max {g : Gl} {h : AH} (a b : Int32) : AM g 1 mJ3_max [.int a, .int b] h (rI (if a < b then b else a) h) := by
  refine AM.ofF (by decide +kernel) (Nat.le_of_ble_eq_true rfl) ?_
  show AW g mJ3_max 1 _ 0 [some (.int a), some (.int b)] [] h
  refine a_iload_n (pc := 0) (i := 0) dJ3_max_0 rfl rfl ?_
  refine a_iload_n (pc := 1) (i := 1) dJ3_max_1 rfl rfl ?_
  refine a_icmp_lt (pc := 2) (tgt := 9) dJ3_max_2 (by decide) (fun c2 => ?_) (fun c2 => ?_)
  · skip
    refine a_iload_n (pc := 9) (i := 1) dJ3_max_9 rfl rfl ?_
    exact a_iret (pc := 10) dJ3_max_10 rfl (rI_of (by grind) rfl)
  · skip
    refine a_iload_n (pc := 5) (i := 0) dJ3_max_5 rfl rfl ?_
    refine a_goto (pc := 6) (tgt := 10) dJ3_max_6 (by decide) ?_
    exact a_iret (pc := 10) dJ3_max_10 rfl (rI_of (by grind) rfl)
theorem c_min {g : Gl} {h : AH} (a b : Int32) : AM g 1 mJ3_min [.int a, .int b] h (rI (if b < a then b else a) h) := by
  refine AM.ofF (by decide +kernel) (Nat.le_of_ble_eq_true rfl) ?_
  show AW g mJ3_min 1 _ 0 [some (.int a), some (.int b)] [] h
  refine a_iload_n (pc := 0) (i := 0) dJ3_min_0 rfl rfl ?_
  refine a_iload_n (pc := 1) (i := 1) dJ3_min_1 rfl rfl ?_
  refine a_icmp_gt (pc := 2) (tgt := 9) dJ3_min_2 (by decide) (fun c2 => ?_) (fun c2 => ?_)
  · skip
    refine a_iload_n (pc := 9) (i := 1) dJ3_min_9 rfl rfl ?_
    exact a_iret (pc := 10) dJ3_min_10 rfl (rI_of (by grind) rfl)
  · skip
    refine a_iload_n (pc := 5) (i := 0) dJ3_min_5 rfl rfl ?_
    refine a_goto (pc := 6) (tgt := 10) dJ3_min_6 (by decide) ?_
    exact a_iret (pc := 10) dJ3_min_10 rfl (rI_of (by grind) rfl)
theorem c_in {g : Gl} {h : AH} (v lo hi : Int32) : AM g 1 mX0_in [.int v, .int lo, .int hi] h (rI (bI (lo ≤ v ∧ v ≤ hi)) h) := by
  refine AM.of (by decide) (Nat.le_of_ble_eq_true rfl) ?_
  show AW g mX0_in 1 _ 0 [some (.int v), some (.int lo), some (.int hi)] [] h
  refine a_iload_n (pc := 0) (i := 0) dX0_in_0 rfl rfl ?_
  refine a_iload_n (pc := 1) (i := 1) dX0_in_1 rfl rfl ?_
  refine a_icmp_lt (pc := 2) (tgt := 14) dX0_in_2 (by decide) (fun c2 => ?_) (fun c2 => ?_)
  · skip
    refine a_iconst (pc := 14) (v := 0) dX0_in_14 (by decide) ?_
    exact a_zret (pc := 15) dX0_in_15 rfl rfl (rI_of (by grind [bI]) rfl)
  · skip
    refine a_iload_n (pc := 5) (i := 0) dX0_in_5 rfl rfl ?_
    refine a_iload_n (pc := 6) (i := 2) dX0_in_6 rfl rfl ?_
    refine a_icmp_gt (pc := 7) (tgt := 14) dX0_in_7 (by decide) (fun c7 => ?_) (fun c7 => ?_)
    · skip
      refine a_iconst (pc := 14) (v := 0) dX0_in_14 (by decide) ?_
      exact a_zret (pc := 15) dX0_in_15 rfl rfl (rI_of (by grind [bI]) rfl)
    · skip
      refine a_iconst (pc := 10) (v := 1) dX0_in_10 (by decide) ?_
      refine a_goto (pc := 11) (tgt := 15) dX0_in_11 (by decide) ?_
      exact a_zret (pc := 15) dX0_in_15 rfl rfl (rI_of (by grind [bI]) rfl)
theorem c_isWell {g : Gl} {h : AH} (w : Int32) : AM g 2 mX0_isWell [.int w] h (rI (bI (0 ≤ w ∧ w ≤ 7)) h) := by
  refine AM.of (by decide) (Nat.le_of_ble_eq_true rfl) ?_
  show AW g mX0_isWell 2 _ 0 [some (.int w)] [] h
  refine a_iload_n (pc := 0) (i := 0) dX0_isWell_0 rfl rfl ?_
  refine a_iconst (pc := 1) (v := 0) dX0_isWell_1 (by decide) ?_
  refine a_bipush (pc := 2) (v := 7) dX0_isWell_2 (by decide) ?_
  refine a_cSi (pc := 4) (c_in _ _ _) sX0_85 dX0_isWell_4 rfl rfl (by decide) (Nat.le_of_ble_eq_true rfl) ?_
  exact a_zret (pc := 7) dX0_isWell_7 rfl nar_bI (rI_of rfl rfl)
theorem c_isSet {g : Gl} {h : AH} (w : Int32) : AM g 2 mX0_isSet [.int w] h (rI (bI (0 ≤ w ∧ w ≤ 255)) h) := by
  refine AM.of (by decide) (Nat.le_of_ble_eq_true rfl) ?_
  show AW g mX0_isSet 2 _ 0 [some (.int w)] [] h
  refine a_iload_n (pc := 0) (i := 0) dX0_isSet_0 rfl rfl ?_
  refine a_iconst (pc := 1) (v := 0) dX0_isSet_1 (by decide) ?_
  refine a_sipush (pc := 2) (v := 255) dX0_isSet_2 (by decide) ?_
  refine a_cSi (pc := 5) (c_in _ _ _) sX0_85 dX0_isSet_5 rfl rfl (by decide) (Nat.le_of_ble_eq_true rfl) ?_
  exact a_zret (pc := 8) dX0_isSet_8 rfl nar_bI (rI_of rfl rfl)
theorem c_isKind {g : Gl} {h : AH} (w : Int32) : AM g 2 mX0_isKind [.int w] h (rI (bI (0 ≤ w ∧ w ≤ 69)) h) := by
  refine AM.of (by decide) (Nat.le_of_ble_eq_true rfl) ?_
  show AW g mX0_isKind 2 _ 0 [some (.int w)] [] h
  refine a_iload_n (pc := 0) (i := 0) dX0_isKind_0 rfl rfl ?_
  refine a_iconst (pc := 1) (v := 0) dX0_isKind_1 (by decide) ?_
  refine a_bipush (pc := 2) (v := 69) dX0_isKind_2 (by decide) ?_
  refine a_cSi (pc := 4) (c_in _ _ _) sX0_85 dX0_isKind_4 rfl rfl (by decide) (Nat.le_of_ble_eq_true rfl) ?_
  exact a_zret (pc := 7) dX0_isKind_7 rfl nar_bI (rI_of rfl rfl)
theorem c_isSheet {g : Gl} {h : AH} (w : Int32) : AM g 2 mX0_isSheet [.int w] h (rI (bI (0 ≤ w ∧ w ≤ 3)) h) := by
  refine AM.of (by decide) (Nat.le_of_ble_eq_true rfl) ?_
  show AW g mX0_isSheet 2 _ 0 [some (.int w)] [] h
  refine a_iload_n (pc := 0) (i := 0) dX0_isSheet_0 rfl rfl ?_
  refine a_iconst (pc := 1) (v := 0) dX0_isSheet_1 (by decide) ?_
  refine a_iconst (pc := 2) (v := 3) dX0_isSheet_2 (by decide) ?_
  refine a_cSi (pc := 3) (c_in _ _ _) sX0_85 dX0_isSheet_3 rfl rfl (by decide) (Nat.le_of_ble_eq_true rfl) ?_
  exact a_zret (pc := 6) dX0_isSheet_6 rfl nar_bI (rI_of rfl rfl)
theorem c_areTwo {g : Gl} {h : AH} (a b : Int32) : AM g 3 mX0_areTwo [.int a, .int b] h (rI (bI ((0 ≤ a ∧ a ≤ 7) ∧ (0 ≤ b ∧ b ≤ 7) ∧ a ≠ b)) h) := by
  refine AM.of (by decide) (Nat.le_of_ble_eq_true rfl) ?_
  show AW g mX0_areTwo 3 _ 0 [some (.int a), some (.int b)] [] h
  refine a_iload_n (pc := 0) (i := 0) dX0_areTwo_0 rfl rfl ?_
  refine a_cSi (pc := 1) (c_isWell _) sX0_89 dX0_areTwo_1 rfl rfl (by decide) (Nat.le_of_ble_eq_true rfl) ?_
  refine a_if_eq (pc := 4) (tgt := 23) dX0_areTwo_4 (by decide) (fun c4 => ?_) (fun c4 => ?_)
  · skip
    refine a_iconst (pc := 23) (v := 0) dX0_areTwo_23 (by decide) ?_
    exact a_zret (pc := 24) dX0_areTwo_24 rfl rfl (rI_of (by grind [bI]) rfl)
  · skip
    refine a_iload_n (pc := 7) (i := 1) dX0_areTwo_7 rfl rfl ?_
    refine a_cSi (pc := 8) (c_isWell _) sX0_89 dX0_areTwo_8 rfl rfl (by decide) (Nat.le_of_ble_eq_true rfl) ?_
    refine a_if_eq (pc := 11) (tgt := 23) dX0_areTwo_11 (by decide) (fun c11 => ?_) (fun c11 => ?_)
    · skip
      refine a_iconst (pc := 23) (v := 0) dX0_areTwo_23 (by decide) ?_
      exact a_zret (pc := 24) dX0_areTwo_24 rfl rfl (rI_of (by grind [bI]) rfl)
    · skip
      refine a_iload_n (pc := 14) (i := 0) dX0_areTwo_14 rfl rfl ?_
      refine a_iload_n (pc := 15) (i := 1) dX0_areTwo_15 rfl rfl ?_
      refine a_icmp_eq (pc := 16) (tgt := 23) dX0_areTwo_16 (by decide) (fun c16 => ?_) (fun c16 => ?_)
      · skip
        refine a_iconst (pc := 23) (v := 0) dX0_areTwo_23 (by decide) ?_
        exact a_zret (pc := 24) dX0_areTwo_24 rfl rfl (rI_of (by grind [bI]) rfl)
      · skip
        refine a_iconst (pc := 19) (v := 1) dX0_areTwo_19 (by decide) ?_
        refine a_goto (pc := 20) (tgt := 24) dX0_areTwo_20 (by decide) ?_
        exact a_zret (pc := 24) dX0_areTwo_24 rfl rfl (rI_of (by grind [bI]) rfl)
theorem c_isWidth {g : Gl} {h : AH} (b : Int32) : AM g 1 mX0_isWidth [.int b] h (rI (bI (b = 8 ∨ b = 16 ∨ b = 32)) h) := by
  refine AM.of (by decide) (Nat.le_of_ble_eq_true rfl) ?_
  show AW g mX0_isWidth 1 _ 0 [some (.int b)] [] h
  refine a_iload_n (pc := 0) (i := 0) dX0_isWidth_0 rfl rfl ?_
  refine a_bipush (pc := 1) (v := 8) dX0_isWidth_1 (by decide) ?_
  refine a_icmp_eq (pc := 3) (tgt := 18) dX0_isWidth_3 (by decide) (fun c3 => ?_) (fun c3 => ?_)
  · skip
    refine a_iconst (pc := 18) (v := 1) dX0_isWidth_18 (by decide) ?_
    refine a_goto (pc := 19) (tgt := 23) dX0_isWidth_19 (by decide) ?_
    exact a_zret (pc := 23) dX0_isWidth_23 rfl rfl (rI_of (by grind [bI]) rfl)
  · skip
    refine a_iload_n (pc := 6) (i := 0) dX0_isWidth_6 rfl rfl ?_
    refine a_bipush (pc := 7) (v := 16) dX0_isWidth_7 (by decide) ?_
    refine a_icmp_eq (pc := 9) (tgt := 18) dX0_isWidth_9 (by decide) (fun c9 => ?_) (fun c9 => ?_)
    · skip
      refine a_iconst (pc := 18) (v := 1) dX0_isWidth_18 (by decide) ?_
      refine a_goto (pc := 19) (tgt := 23) dX0_isWidth_19 (by decide) ?_
      exact a_zret (pc := 23) dX0_isWidth_23 rfl rfl (rI_of (by grind [bI]) rfl)
    · skip
      refine a_iload_n (pc := 12) (i := 0) dX0_isWidth_12 rfl rfl ?_
      refine a_bipush (pc := 13) (v := 32) dX0_isWidth_13 (by decide) ?_
      refine a_icmp_ne (pc := 15) (tgt := 22) dX0_isWidth_15 (by decide) (fun c15 => ?_) (fun c15 => ?_)
      · skip
        refine a_iconst (pc := 22) (v := 0) dX0_isWidth_22 (by decide) ?_
        exact a_zret (pc := 23) dX0_isWidth_23 rfl rfl (rI_of (by grind [bI]) rfl)
      · skip
        refine a_iconst (pc := 18) (v := 1) dX0_isWidth_18 (by decide) ?_
        refine a_goto (pc := 19) (tgt := 23) dX0_isWidth_19 (by decide) ?_
        exact a_zret (pc := 23) dX0_isWidth_23 rfl rfl (rI_of (by grind [bI]) rfl)
theorem c_hasBit {g : Gl} {h : AH} (s k : Int32) : AM g 1 mX0_hasBit [.int s, .int k] h (rI (bI ((s >>> (k &&& 31)) &&& 1 = 1)) h) := by
  refine AM.of (by decide) (Nat.le_of_ble_eq_true rfl) ?_
  show AW g mX0_hasBit 1 _ 0 [some (.int s), some (.int k)] [] h
  refine a_iload_n (pc := 0) (i := 0) dX0_hasBit_0 rfl rfl ?_
  refine a_iload_n (pc := 1) (i := 1) dX0_hasBit_1 rfl rfl ?_
  refine a_ishr (pc := 2) dX0_hasBit_2 ?_
  refine a_iconst (pc := 3) (v := 1) dX0_hasBit_3 (by decide) ?_
  refine a_iand (pc := 4) dX0_hasBit_4 ?_
  refine a_iconst (pc := 5) (v := 1) dX0_hasBit_5 (by decide) ?_
  refine a_icmp_ne (pc := 6) (tgt := 13) dX0_hasBit_6 (by decide) (fun c6 => ?_) (fun c6 => ?_)
  · skip
    refine a_iconst (pc := 13) (v := 0) dX0_hasBit_13 (by decide) ?_
    exact a_zret (pc := 14) dX0_hasBit_14 rfl rfl (rI_of (by grind [bI]) rfl)
  · skip
    refine a_iconst (pc := 9) (v := 1) dX0_hasBit_9 (by decide) ?_
    refine a_goto (pc := 10) (tgt := 14) dX0_hasBit_10 (by decide) ?_
    exact a_zret (pc := 14) dX0_hasBit_14 rfl rfl (rI_of (by grind [bI]) rfl)
def bitc (x : Int32) : Int32 :=
  let a := x - ((x.toUInt32 >>> ((1 : Int32).toUInt32 &&& Int32.toUInt32 31)).toInt32 &&& 1431655765)
  let b := (a &&& 858993459) + ((a.toUInt32 >>> ((2 : Int32).toUInt32 &&& Int32.toUInt32 31)).toInt32 &&& 858993459)
  let c := (b + (b.toUInt32 >>> ((4 : Int32).toUInt32 &&& Int32.toUInt32 31)).toInt32) &&& 252645135
  let e := c + (c.toUInt32 >>> ((8 : Int32).toUInt32 &&& Int32.toUInt32 31)).toInt32
  let f := e + (e.toUInt32 >>> ((16 : Int32).toUInt32 &&& Int32.toUInt32 31)).toInt32
  f &&& 63
theorem c_bitCount {g : Gl} {h : AH} (x : Int32) : AM g 1 mJ9_bitCount [.int x] h (rI (bitc x) h) := by
  refine AM.ofF (by decide +kernel) (Nat.le_of_ble_eq_true rfl) ?_
  show AW g mJ9_bitCount 1 _ 0 [some (.int x)] [] h
  refine a_iload_n (pc := 0) (i := 0) dJ9_bitCount_0 rfl rfl ?_
  refine a_iload_n (pc := 1) (i := 0) dJ9_bitCount_1 rfl rfl ?_
  refine a_iconst (pc := 2) (v := 1) dJ9_bitCount_2 (by decide) ?_
  refine a_iushr (pc := 3) dJ9_bitCount_3 ?_
  refine a_ldcw (pc := 4) dJ9_bitCount_4 q1063 ?_
  refine a_iand (pc := 7) dJ9_bitCount_7 ?_
  refine a_isub (pc := 8) dJ9_bitCount_8 ?_
  refine a_istore_n (pc := 9) (i := 0) dJ9_bitCount_9 rfl (by decide) rfl ?_
  refine a_iload_n (pc := 10) (i := 0) dJ9_bitCount_10 rfl rfl ?_
  refine a_ldcw (pc := 11) dJ9_bitCount_11 q1064 ?_
  refine a_iand (pc := 14) dJ9_bitCount_14 ?_
  refine a_iload_n (pc := 15) (i := 0) dJ9_bitCount_15 rfl rfl ?_
  refine a_iconst (pc := 16) (v := 2) dJ9_bitCount_16 (by decide) ?_
  refine a_iushr (pc := 17) dJ9_bitCount_17 ?_
  refine a_ldcw (pc := 18) dJ9_bitCount_18 q1064 ?_
  refine a_iand (pc := 21) dJ9_bitCount_21 ?_
  refine a_iadd (pc := 22) dJ9_bitCount_22 ?_
  refine a_istore_n (pc := 23) (i := 0) dJ9_bitCount_23 rfl (by decide) rfl ?_
  refine a_iload_n (pc := 24) (i := 0) dJ9_bitCount_24 rfl rfl ?_
  refine a_iload_n (pc := 25) (i := 0) dJ9_bitCount_25 rfl rfl ?_
  refine a_iconst (pc := 26) (v := 4) dJ9_bitCount_26 (by decide) ?_
  refine a_iushr (pc := 27) dJ9_bitCount_27 ?_
  refine a_iadd (pc := 28) dJ9_bitCount_28 ?_
  refine a_ldcw (pc := 29) dJ9_bitCount_29 q1065 ?_
  refine a_iand (pc := 32) dJ9_bitCount_32 ?_
  refine a_istore_n (pc := 33) (i := 0) dJ9_bitCount_33 rfl (by decide) rfl ?_
  refine a_iload_n (pc := 34) (i := 0) dJ9_bitCount_34 rfl rfl ?_
  refine a_iload_n (pc := 35) (i := 0) dJ9_bitCount_35 rfl rfl ?_
  refine a_bipush (pc := 36) (v := 8) dJ9_bitCount_36 (by decide) ?_
  refine a_iushr (pc := 38) dJ9_bitCount_38 ?_
  refine a_iadd (pc := 39) dJ9_bitCount_39 ?_
  refine a_istore_n (pc := 40) (i := 0) dJ9_bitCount_40 rfl (by decide) rfl ?_
  refine a_iload_n (pc := 41) (i := 0) dJ9_bitCount_41 rfl rfl ?_
  refine a_iload_n (pc := 42) (i := 0) dJ9_bitCount_42 rfl rfl ?_
  refine a_bipush (pc := 43) (v := 16) dJ9_bitCount_43 (by decide) ?_
  refine a_iushr (pc := 45) dJ9_bitCount_45 ?_
  refine a_iadd (pc := 46) dJ9_bitCount_46 ?_
  refine a_istore_n (pc := 47) (i := 0) dJ9_bitCount_47 rfl (by decide) rfl ?_
  refine a_iload_n (pc := 48) (i := 0) dJ9_bitCount_48 rfl rfl ?_
  refine a_bipush (pc := 49) (v := 63) dJ9_bitCount_49 (by decide) ?_
  refine a_iand (pc := 51) dJ9_bitCount_51 ?_
  exact a_iret (pc := 52) dJ9_bitCount_52 rfl (rI_of rfl rfl)
theorem c_held {g : Gl} {h : AH} (v lo hi : Int32) : AM g 2 mX2_held [.int v, .int lo, .int hi] h (rI (if lo < (if v < hi then v else hi) then (if v < hi then v else hi) else lo) h) := by
  refine AM.of (by decide) (Nat.le_of_ble_eq_true rfl) ?_
  show AW g mX2_held 2 _ 0 [some (.int v), some (.int lo), some (.int hi)] [] h
  refine a_iload_n (pc := 0) (i := 1) dX2_held_0 rfl rfl ?_
  refine a_iload_n (pc := 1) (i := 2) dX2_held_1 rfl rfl ?_
  refine a_iload_n (pc := 2) (i := 0) dX2_held_2 rfl rfl ?_
  refine a_cSi (pc := 3) (c_min _ _) sX2_88 dX2_held_3 rfl rfl (by decide) (Nat.le_of_ble_eq_true rfl) ?_
  refine a_cSi (pc := 6) (c_max _ _) sX2_94 dX2_held_6 rfl rfl (by decide) (Nat.le_of_ble_eq_true rfl) ?_
  exact a_iret (pc := 9) dX2_held_9 rfl (rI_of (by grind) rfl)
theorem c_of {g : Gl} {h : AH} (hx : Fx h) (c : Int32) : AM g 1 mX1_of [.ref 31, .int c] h (rR (some 31) (pI h 31 6 c)) := by
  refine AM.of (by decide) (Nat.le_of_ble_eq_true rfl) ?_
  show AW g mX1_of 1 _ 0 [some (.ref 31), some (.int c)] [] h
  refine a_aload_n (pc := 0) (i := 0) dX1_of_0 rfl rfl ?_
  refine a_iload_n (pc := 1) (i := 1) dX1_of_1 rfl rfl ?_
  refine a_putI (pc := 2) dX1_of_2 fX1_7_1 (Or.inl rfl) rfl (hx.s 31 rfl) (by decide) (hx.n (by decide)) rfl rfl ?_
  refine a_aload_n (pc := 5) (i := 0) dX1_of_5 rfl rfl ?_
  exact a_aret (pc := 6) (r := some 31) rfl dX1_of_6 rfl rfl (rR_of rfl rfl)
theorem c_need1 {g : Gl} {h : AH} (hx : Fx h) (c : Int32) : AM g 2 mX0_need [.ref 30, .int 1, .int c] h (rV h) := by
  refine AM.of (by decide) (Nat.le_of_ble_eq_true rfl) ?_
  show AW g mX0_need 2 _ 0 [some (.ref 30), some (.int 1), some (.int c)] [] h
  refine a_iload_n (pc := 0) (i := 1) dX0_need_0 rfl rfl ?_
  refine a_if_ne (pc := 1) (tgt := 13) dX0_need_1 (by decide) (fun _ => ?_) (fun c1 => absurd c1 (by decide))
  exact a_vret (pc := 13) dX0_need_13 rfl (rV_of rfl)
theorem c_need0 {g : Gl} {h : AH} (hx : Fx h) (c : Int32) : AM g 2 mX0_need [.ref 30, .int 0, .int c] h (rT 31 (pI h 31 6 c)) := by
  refine AM.of (by decide) (Nat.le_of_ble_eq_true rfl) ?_
  show AW g mX0_need 2 _ 0 [some (.ref 30), some (.int 0), some (.int c)] [] h
  refine a_iload_n (pc := 0) (i := 1) dX0_need_0 rfl rfl ?_
  refine a_if_ne (pc := 1) (tgt := 13) dX0_need_1 (by decide) (fun c1 => absurd (by decide) c1) (fun _ => ?_)
  refine a_aload_n (pc := 4) (i := 0) dX0_need_4 rfl rfl ?_
  refine a_getR (pc := 5) dX0_need_5 fX0_1_0 rfl (hx.s 30 rfl) (by decide) (hx.n (by decide)) (hx.r 30 0 31 rfl) ?_
  refine a_iload_n (pc := 8) (i := 2) dX0_need_8 rfl rfl ?_
  refine a_cVr (pc := 9) (c_of hx _) sX0_7_1 dX0_need_9 (recv_obj (t := 1) rfl (hx.s 31 rfl) (by decide) (hx.n (by decide))) rfl rfl (by decide) (Nat.le_of_ble_eq_true rfl) ?_
  exact a_athrow (pc := 12) dX0_need_12 (a_leave rfl (rT_of rfl rfl))
