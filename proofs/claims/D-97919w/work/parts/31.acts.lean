theorem c_finds {g : Gl} {h : AH} (hx : Fx h) (c : Nat) (hc : c < 6) : AM g 1 mX0_finds [.ref 30, .ref 31] (pI h 31 6 (nI c)) (rI (xErr h c).1 (xErr h c).2) := by
  refine AM.of (by decide) (Nat.le_of_ble_eq_true rfl) ?_
  show AW g mX0_finds 1 _ 0 [some (.ref 30), some (.ref 31)] [] (pI h 31 6 (nI c))
  refine a_aload_n (pc := 0) (i := 0) dX0_finds_0 rfl rfl ?_
  refine a_getR (pc := 1) dX0_finds_1 fX0_63_0 rfl (hx.s 30 rfl) (by decide) (hx.n (by decide)) (hx.r 30 6 76 rfl) ?_
  refine a_aload_n (pc := 4) (i := 1) dX0_finds_4 rfl rfl ?_
  refine a_getI (pc := 5) dX0_finds_5 fX0_80_1 rfl (hx.s 31 rfl) (by decide) (hx.n (by decide)) ?_
  rw [show gI (pI h 31 6 (nI c)) 31 6 = nI c from rfl]
  refine a_dup2 (pc := 8) dX0_finds_8 rfl rfl ?_
  refine a_ialdN (pc := 9) dX0_finds_9 (hx.s 76 rfl) (by decide) (hx.n (by decide)) (k := c) rfl ⟨hc, by decide⟩ ?_
  refine a_iconst (pc := 10) (v := 1) dX0_finds_10 (by decide) ?_
  refine a_iadd (pc := 11) dX0_finds_11 ?_
  refine a_iastN (pc := 12) dX0_finds_12 (hx.s 76 rfl) (by decide) (hx.n (by decide)) (k := c) rfl ⟨hc, by decide⟩ ?_
  refine a_ldc (pc := 13) dX0_finds_13 q379 ?_
  refine a_aload_n (pc := 15) (i := 1) dX0_finds_15 rfl rfl ?_
  refine a_getI (pc := 16) dX0_finds_16 fX0_80_1 rfl (hx.s 31 rfl) (by decide) (hx.n (by decide)) ?_
  rw [show gI (pI (pI h 31 6 (nI c)) 76 c (gI (pI h 31 6 (nI c)) 76 c + 1)) 31 6 = nI c from rfl]
  refine a_isub (pc := 19) dX0_finds_19 ?_
  exact a_iret (pc := 20) dX0_finds_20 rfl (rI_of rfl rfl)
theorem c_roadOf {g : Gl} {h : AH} (hx : Fx h) (i j : Nat) (hi : i ≤ 7) (hj : j ≤ 7) : AM g 1 mX2_roadOf [.ref 32, .int (nI i), .int (nI j)] h (rI (gI h 34 (8 * i + j)) h) := by
  refine AM.of (by decide) (Nat.le_of_ble_eq_true rfl) ?_
  show AW g mX2_roadOf 1 _ 0 [some (.ref 32), some (.int (nI i)), some (.int (nI j))] [] h
  refine a_aload_n (pc := 0) (i := 0) dX2_roadOf_0 rfl rfl ?_
  refine a_getR (pc := 1) dX2_roadOf_1 fX2_15_2 rfl (hx.s 32 rfl) (by decide) (hx.n (by decide)) (hx.r 32 1 34 rfl) ?_
  refine a_bipush (pc := 4) (v := 8) dX2_roadOf_4 (by decide) ?_
  refine a_iload_n (pc := 6) (i := 1) dX2_roadOf_6 rfl rfl ?_
  refine a_imul (pc := 7) dX2_roadOf_7 ?_
  refine a_iload_n (pc := 8) (i := 2) dX2_roadOf_8 rfl rfl ?_
  refine a_iadd (pc := 9) dX2_roadOf_9 ?_
  refine a_ialdN (pc := 10) dX2_roadOf_10 (hx.s 34 rfl) (by decide) (hx.n (by decide)) (k := 8 * i + j) (ix8 i j) ⟨by omega, by decide⟩ ?_
  exact a_iret (pc := 11) dX2_roadOf_11 rfl (rI_of rfl rfl)
theorem c_xWater {g : Gl} {h : AH} (hx : Fx h) (w v : Int32) : AM g 4 mX0_water [.ref 30, .int w, .int v] h (rI (xWater h w v).1 (xWater h w v).2) := by
  refine AM.of (by decide) (Nat.le_of_ble_eq_true rfl) ?_
  show AW g mX0_water 4 _ 0 [some (.ref 30), some (.int w), some (.int v)] [] h
  refine a_aload_n (pc := 0) (i := 0) dX0_water_0 rfl rfl ?_
  refine a_iload_n (pc := 1) (i := 1) dX0_water_1 rfl rfl ?_
  refine a_cSi (pc := 2) (c_isWell _) sX0_89 dX0_water_2 rfl rfl (by decide) (Nat.le_of_ble_eq_true rfl) ?_
  refine a_if_eq (pc := 5) (tgt := 22) dX0_water_5 (by decide) (fun c5 => ?_) (fun c5 => ?_)
  · skip
    refine a_iconst (pc := 22) (v := 0) dX0_water_22 (by decide) ?_
    refine a_iconst (pc := 23) (v := 1) dX0_water_23 (by decide) ?_
    refine a_cVt (pc := 24) (c_need0 (by exact hx) _) sX0_100_0 dX0_water_24 (recv_obj (t := 0) rfl (hx.s 30 rfl) (by decide) (hx.n (by decide))) rfl rfl (by decide) (Nat.le_of_ble_eq_true rfl) ?_
    refine a_catch1 (t := 1) rfl (by decide) (by decide) (by decide) rfl q124 (hx.s 31 rfl) (by decide) (hx.n (by decide)) ?_
    refine a_astore_n (pc := 49) (i := 3) dX0_water_49 rfl (by decide) rfl ?_
    refine a_aload_n (pc := 50) (i := 0) dX0_water_50 rfl rfl ?_
    refine a_aload_n (pc := 51) (i := 3) dX0_water_51 rfl rfl ?_
    refine a_cVi (pc := 52) (c_finds (by exact hx) 1 (by decide)) sX0_109_0 dX0_water_52 (recv_obj (t := 0) rfl (hx.s 30 rfl) (by decide) (hx.n (by decide))) rfl rfl (by decide) (Nat.le_of_ble_eq_true rfl) ?_
    exact a_iret (pc := 55) dX0_water_55 rfl (rI_p2 (by grind [xWater, bI]))
  · skip
    refine a_iload_n (pc := 8) (i := 2) dX0_water_8 rfl rfl ?_
    refine a_iconst (pc := 9) (v := 0) dX0_water_9 (by decide) ?_
    refine a_bipush (pc := 10) (v := 99) dX0_water_10 (by decide) ?_
    refine a_cSi (pc := 12) (c_in _ _ _) sX0_85 dX0_water_12 rfl rfl (by decide) (Nat.le_of_ble_eq_true rfl) ?_
    refine a_if_eq (pc := 15) (tgt := 22) dX0_water_15 (by decide) (fun c15 => ?_) (fun c15 => ?_)
    · skip
      refine a_iconst (pc := 22) (v := 0) dX0_water_22 (by decide) ?_
      refine a_iconst (pc := 23) (v := 1) dX0_water_23 (by decide) ?_
      refine a_cVt (pc := 24) (c_need0 (by exact hx) _) sX0_100_0 dX0_water_24 (recv_obj (t := 0) rfl (hx.s 30 rfl) (by decide) (hx.n (by decide))) rfl rfl (by decide) (Nat.le_of_ble_eq_true rfl) ?_
      refine a_catch1 (t := 1) rfl (by decide) (by decide) (by decide) rfl q124 (hx.s 31 rfl) (by decide) (hx.n (by decide)) ?_
      refine a_astore_n (pc := 49) (i := 3) dX0_water_49 rfl (by decide) rfl ?_
      refine a_aload_n (pc := 50) (i := 0) dX0_water_50 rfl rfl ?_
      refine a_aload_n (pc := 51) (i := 3) dX0_water_51 rfl rfl ?_
      refine a_cVi (pc := 52) (c_finds (by exact hx) 1 (by decide)) sX0_109_0 dX0_water_52 (recv_obj (t := 0) rfl (hx.s 30 rfl) (by decide) (hx.n (by decide))) rfl rfl (by decide) (Nat.le_of_ble_eq_true rfl) ?_
      exact a_iret (pc := 55) dX0_water_55 rfl (rI_p2 (by grind [xWater, bI]))
    · skip
      refine a_iconst (pc := 18) (v := 1) dX0_water_18 (by decide) ?_
      refine a_goto (pc := 19) (tgt := 23) dX0_water_19 (by decide) ?_
      refine a_iconst (pc := 23) (v := 1) dX0_water_23 (by decide) ?_
      refine a_cVv (pc := 24) (c_need1 (by exact hx) _) sX0_100_0 dX0_water_24 (recv_obj (t := 0) rfl (hx.s 30 rfl) (by decide) (hx.n (by decide))) rfl rfl (by decide) (Nat.le_of_ble_eq_true rfl) ?_
      obtain ⟨j, hj, rfl⟩ := nI_ex (bI_n.mp c5) (n := 7) rfl
      have tj : tn (nI j) = j := tn_nI (by omega)
      refine a_aload_n (pc := 27) (i := 0) dX0_water_27 rfl rfl ?_
      refine a_getR (pc := 28) dX0_water_28 fX0_46_0 rfl (hx.s 30 rfl) (by decide) (hx.n (by decide)) (hx.r 30 1 32 rfl) ?_
      refine a_getR (pc := 31) dX0_water_31 fX0_106_2 rfl (hx.s 32 rfl) (by decide) (hx.n (by decide)) (hx.r 32 0 33 rfl) ?_
      refine a_iload_n (pc := 34) (i := 1) dX0_water_34 rfl rfl ?_
      refine a_ialdN (pc := 35) dX0_water_35 (hx.s 33 rfl) (by decide) (hx.n (by decide)) (k := j) rfl ⟨by omega, by decide⟩ ?_
      refine a_istore_n (pc := 36) (i := 3) dX0_water_36 rfl (by decide) rfl ?_
      refine a_aload_n (pc := 37) (i := 0) dX0_water_37 rfl rfl ?_
      refine a_getR (pc := 38) dX0_water_38 fX0_46_0 rfl (hx.s 30 rfl) (by decide) (hx.n (by decide)) (hx.r 30 1 32 rfl) ?_
      refine a_getR (pc := 41) dX0_water_41 fX0_106_2 rfl (hx.s 32 rfl) (by decide) (hx.n (by decide)) (hx.r 32 0 33 rfl) ?_
      refine a_iload_n (pc := 44) (i := 1) dX0_water_44 rfl rfl ?_
      refine a_iload_n (pc := 45) (i := 2) dX0_water_45 rfl rfl ?_
      refine a_iastN (pc := 46) dX0_water_46 (hx.s 33 rfl) (by decide) (hx.n (by decide)) (k := j) rfl ⟨by omega, by decide⟩ ?_
      refine a_iload_n (pc := 47) (i := 3) dX0_water_47 rfl rfl ?_
      exact a_iret (pc := 48) dX0_water_48 rfl (rI_p (by grind [xWater, bI, gI_pI]))
theorem c_xRoad {g : Gl} {h : AH} (hx : Fx h) (a b v : Int32) : AM g 5 mX0_road [.ref 30, .int a, .int b, .int v] h (rI (xRoad h a b v).1 (xRoad h a b v).2) := by
  refine AM.of (by decide) (Nat.le_of_ble_eq_true rfl) ?_
  show AW g mX0_road 5 _ 0 [some (.ref 30), some (.int a), some (.int b), some (.int v)] [] h
  refine a_aload_n (pc := 0) (i := 0) dX0_road_0 rfl rfl ?_
  refine a_iload_n (pc := 1) (i := 1) dX0_road_1 rfl rfl ?_
  refine a_iload_n (pc := 2) (i := 2) dX0_road_2 rfl rfl ?_
  refine a_cSi (pc := 3) (c_areTwo _ _) sX0_113 dX0_road_3 rfl rfl (by decide) (Nat.le_of_ble_eq_true rfl) ?_
  refine a_if_eq (pc := 6) (tgt := 23) dX0_road_6 (by decide) (fun c6 => ?_) (fun c6 => ?_)
  · skip
    refine a_iconst (pc := 23) (v := 0) dX0_road_23 (by decide) ?_
    refine a_iconst (pc := 24) (v := 1) dX0_road_24 (by decide) ?_
    refine a_cVt (pc := 25) (c_need0 (by exact hx) _) sX0_100_0 dX0_road_25 (recv_obj (t := 0) rfl (hx.s 30 rfl) (by decide) (hx.n (by decide))) rfl rfl (by decide) (Nat.le_of_ble_eq_true rfl) ?_
    refine a_catch1 (t := 1) rfl (by decide) (by decide) (by decide) rfl q124 (hx.s 31 rfl) (by decide) (hx.n (by decide)) ?_
    refine a_astore (pc := 72) dX0_road_72 (by decide) rfl ?_
    refine a_aload_n (pc := 74) (i := 0) dX0_road_74 rfl rfl ?_
    refine a_aload (pc := 75) dX0_road_75 rfl ?_
    refine a_cVi (pc := 77) (c_finds (by exact hx) 1 (by decide)) sX0_109_0 dX0_road_77 (recv_obj (t := 0) rfl (hx.s 30 rfl) (by decide) (hx.n (by decide))) rfl rfl (by decide) (Nat.le_of_ble_eq_true rfl) ?_
    exact a_iret (pc := 80) dX0_road_80 rfl (rI_p2 (by grind [xRoad, bI]))
  · skip
    refine a_iload_n (pc := 9) (i := 3) dX0_road_9 rfl rfl ?_
    refine a_iconst (pc := 10) (v := 0) dX0_road_10 (by decide) ?_
    refine a_bipush (pc := 11) (v := 20) dX0_road_11 (by decide) ?_
    refine a_cSi (pc := 13) (c_in _ _ _) sX0_85 dX0_road_13 rfl rfl (by decide) (Nat.le_of_ble_eq_true rfl) ?_
    refine a_if_eq (pc := 16) (tgt := 23) dX0_road_16 (by decide) (fun c16 => ?_) (fun c16 => ?_)
    · skip
      refine a_iconst (pc := 23) (v := 0) dX0_road_23 (by decide) ?_
      refine a_iconst (pc := 24) (v := 1) dX0_road_24 (by decide) ?_
      refine a_cVt (pc := 25) (c_need0 (by exact hx) _) sX0_100_0 dX0_road_25 (recv_obj (t := 0) rfl (hx.s 30 rfl) (by decide) (hx.n (by decide))) rfl rfl (by decide) (Nat.le_of_ble_eq_true rfl) ?_
      refine a_catch1 (t := 1) rfl (by decide) (by decide) (by decide) rfl q124 (hx.s 31 rfl) (by decide) (hx.n (by decide)) ?_
      refine a_astore (pc := 72) dX0_road_72 (by decide) rfl ?_
      refine a_aload_n (pc := 74) (i := 0) dX0_road_74 rfl rfl ?_
      refine a_aload (pc := 75) dX0_road_75 rfl ?_
      refine a_cVi (pc := 77) (c_finds (by exact hx) 1 (by decide)) sX0_109_0 dX0_road_77 (recv_obj (t := 0) rfl (hx.s 30 rfl) (by decide) (hx.n (by decide))) rfl rfl (by decide) (Nat.le_of_ble_eq_true rfl) ?_
      exact a_iret (pc := 80) dX0_road_80 rfl (rI_p2 (by grind [xRoad, bI]))
    · skip
      refine a_iconst (pc := 19) (v := 1) dX0_road_19 (by decide) ?_
      refine a_goto (pc := 20) (tgt := 24) dX0_road_20 (by decide) ?_
      refine a_iconst (pc := 24) (v := 1) dX0_road_24 (by decide) ?_
      refine a_cVv (pc := 25) (c_need1 (by exact hx) _) sX0_100_0 dX0_road_25 (recv_obj (t := 0) rfl (hx.s 30 rfl) (by decide) (hx.n (by decide))) rfl rfl (by decide) (Nat.le_of_ble_eq_true rfl) ?_
      obtain ⟨i, hi, rfl⟩ := nI_ex (bI_n.mp c6).1 (n := 7) rfl
      have ti : tn (nI i) = i := tn_nI (by omega)
      obtain ⟨j, hj, rfl⟩ := nI_ex (bI_n.mp c6).2.1 (n := 7) rfl
      have tj : tn (nI j) = j := tn_nI (by omega)
      refine a_aload_n (pc := 28) (i := 0) dX0_road_28 rfl rfl ?_
      refine a_getR (pc := 29) dX0_road_29 fX0_46_0 rfl (hx.s 30 rfl) (by decide) (hx.n (by decide)) (hx.r 30 1 32 rfl) ?_
      refine a_iload_n (pc := 32) (i := 1) dX0_road_32 rfl rfl ?_
      refine a_iload_n (pc := 33) (i := 2) dX0_road_33 rfl rfl ?_
      refine a_cVi (pc := 34) (c_roadOf hx i j hi hj) sX0_117_2 dX0_road_34 (recv_obj (t := 2) rfl (hx.s 32 rfl) (by decide) (hx.n (by decide))) rfl rfl (by decide) (Nat.le_of_ble_eq_true rfl) ?_
      refine a_istore (pc := 37) dX0_road_37 (by decide) rfl ?_
      refine a_aload_n (pc := 39) (i := 0) dX0_road_39 rfl rfl ?_
      refine a_getR (pc := 40) dX0_road_40 fX0_46_0 rfl (hx.s 30 rfl) (by decide) (hx.n (by decide)) (hx.r 30 1 32 rfl) ?_
      refine a_getR (pc := 43) dX0_road_43 fX0_121_2 rfl (hx.s 32 rfl) (by decide) (hx.n (by decide)) (hx.r 32 1 34 rfl) ?_
      refine a_bipush (pc := 46) (v := 8) dX0_road_46 (by decide) ?_
      refine a_iload_n (pc := 48) (i := 1) dX0_road_48 rfl rfl ?_
      refine a_imul (pc := 49) dX0_road_49 ?_
      refine a_iload_n (pc := 50) (i := 2) dX0_road_50 rfl rfl ?_
      refine a_iadd (pc := 51) dX0_road_51 ?_
      refine a_iload_n (pc := 52) (i := 3) dX0_road_52 rfl rfl ?_
      refine a_iastN (pc := 53) dX0_road_53 (hx.s 34 rfl) (by decide) (hx.n (by decide)) (k := 8 * i + j) (ix8 i j) ⟨by omega, by decide⟩ ?_
      refine a_aload_n (pc := 54) (i := 0) dX0_road_54 rfl rfl ?_
      refine a_getR (pc := 55) dX0_road_55 fX0_46_0 rfl (hx.s 30 rfl) (by decide) (hx.n (by decide)) (hx.r 30 1 32 rfl) ?_
      refine a_getR (pc := 58) dX0_road_58 fX0_121_2 rfl (hx.s 32 rfl) (by decide) (hx.n (by decide)) (hx.r 32 1 34 rfl) ?_
      refine a_bipush (pc := 61) (v := 8) dX0_road_61 (by decide) ?_
      refine a_iload_n (pc := 63) (i := 2) dX0_road_63 rfl rfl ?_
      refine a_imul (pc := 64) dX0_road_64 ?_
      refine a_iload_n (pc := 65) (i := 1) dX0_road_65 rfl rfl ?_
      refine a_iadd (pc := 66) dX0_road_66 ?_
      refine a_iload_n (pc := 67) (i := 3) dX0_road_67 rfl rfl ?_
      refine a_iastN (pc := 68) dX0_road_68 (hx.s 34 rfl) (by decide) (hx.n (by decide)) (k := 8 * j + i) (ix8 j i) ⟨by omega, by decide⟩ ?_
      refine a_iload (pc := 69) dX0_road_69 rfl ?_
      exact a_iret (pc := 71) dX0_road_71 rfl (rI_p (by grind [xRoad, bI, gI_pI]))
theorem c_xOwe {g : Gl} {h : AH} (hx : Fx h) (a b v : Int32) : AM g 5 mX0_owe [.ref 30, .int a, .int b, .int v] h (rI (xOwe h a b v).1 (xOwe h a b v).2) := by
  refine AM.of (by decide) (Nat.le_of_ble_eq_true rfl) ?_
  show AW g mX0_owe 5 _ 0 [some (.ref 30), some (.int a), some (.int b), some (.int v)] [] h
  refine a_aload_n (pc := 0) (i := 0) dX0_owe_0 rfl rfl ?_
  refine a_iload_n (pc := 1) (i := 1) dX0_owe_1 rfl rfl ?_
  refine a_iload_n (pc := 2) (i := 2) dX0_owe_2 rfl rfl ?_
  refine a_cSi (pc := 3) (c_areTwo _ _) sX0_113 dX0_owe_3 rfl rfl (by decide) (Nat.le_of_ble_eq_true rfl) ?_
  refine a_if_eq (pc := 6) (tgt := 24) dX0_owe_6 (by decide) (fun c6 => ?_) (fun c6 => ?_)
  · skip
    refine a_iconst (pc := 24) (v := 0) dX0_owe_24 (by decide) ?_
    refine a_iconst (pc := 25) (v := 1) dX0_owe_25 (by decide) ?_
    refine a_cVt (pc := 26) (c_need0 (by exact hx) _) sX0_100_0 dX0_owe_26 (recv_obj (t := 0) rfl (hx.s 30 rfl) (by decide) (hx.n (by decide))) rfl rfl (by decide) (Nat.le_of_ble_eq_true rfl) ?_
    refine a_catch1 (t := 1) rfl (by decide) (by decide) (by decide) rfl q124 (hx.s 31 rfl) (by decide) (hx.n (by decide)) ?_
    refine a_astore (pc := 63) dX0_owe_63 (by decide) rfl ?_
    refine a_aload_n (pc := 65) (i := 0) dX0_owe_65 rfl rfl ?_
    refine a_aload (pc := 66) dX0_owe_66 rfl ?_
    refine a_cVi (pc := 68) (c_finds (by exact hx) 1 (by decide)) sX0_109_0 dX0_owe_68 (recv_obj (t := 0) rfl (hx.s 30 rfl) (by decide) (hx.n (by decide))) rfl rfl (by decide) (Nat.le_of_ble_eq_true rfl) ?_
    exact a_iret (pc := 71) dX0_owe_71 rfl (rI_p2 (by grind [xOwe, bI]))
  · skip
    refine a_iload_n (pc := 9) (i := 3) dX0_owe_9 rfl rfl ?_
    refine a_iconst (pc := 10) (v := 0) dX0_owe_10 (by decide) ?_
    refine a_sipush (pc := 11) (v := 9999) dX0_owe_11 (by decide) ?_
    refine a_cSi (pc := 14) (c_in _ _ _) sX0_85 dX0_owe_14 rfl rfl (by decide) (Nat.le_of_ble_eq_true rfl) ?_
    refine a_if_eq (pc := 17) (tgt := 24) dX0_owe_17 (by decide) (fun c17 => ?_) (fun c17 => ?_)
    · skip
      refine a_iconst (pc := 24) (v := 0) dX0_owe_24 (by decide) ?_
      refine a_iconst (pc := 25) (v := 1) dX0_owe_25 (by decide) ?_
      refine a_cVt (pc := 26) (c_need0 (by exact hx) _) sX0_100_0 dX0_owe_26 (recv_obj (t := 0) rfl (hx.s 30 rfl) (by decide) (hx.n (by decide))) rfl rfl (by decide) (Nat.le_of_ble_eq_true rfl) ?_
      refine a_catch1 (t := 1) rfl (by decide) (by decide) (by decide) rfl q124 (hx.s 31 rfl) (by decide) (hx.n (by decide)) ?_
      refine a_astore (pc := 63) dX0_owe_63 (by decide) rfl ?_
      refine a_aload_n (pc := 65) (i := 0) dX0_owe_65 rfl rfl ?_
      refine a_aload (pc := 66) dX0_owe_66 rfl ?_
      refine a_cVi (pc := 68) (c_finds (by exact hx) 1 (by decide)) sX0_109_0 dX0_owe_68 (recv_obj (t := 0) rfl (hx.s 30 rfl) (by decide) (hx.n (by decide))) rfl rfl (by decide) (Nat.le_of_ble_eq_true rfl) ?_
      exact a_iret (pc := 71) dX0_owe_71 rfl (rI_p2 (by grind [xOwe, bI]))
    · skip
      refine a_iconst (pc := 20) (v := 1) dX0_owe_20 (by decide) ?_
      refine a_goto (pc := 21) (tgt := 25) dX0_owe_21 (by decide) ?_
      refine a_iconst (pc := 25) (v := 1) dX0_owe_25 (by decide) ?_
      refine a_cVv (pc := 26) (c_need1 (by exact hx) _) sX0_100_0 dX0_owe_26 (recv_obj (t := 0) rfl (hx.s 30 rfl) (by decide) (hx.n (by decide))) rfl rfl (by decide) (Nat.le_of_ble_eq_true rfl) ?_
      obtain ⟨i, hi, rfl⟩ := nI_ex (bI_n.mp c6).1 (n := 7) rfl
      have ti : tn (nI i) = i := tn_nI (by omega)
      obtain ⟨j, hj, rfl⟩ := nI_ex (bI_n.mp c6).2.1 (n := 7) rfl
      have tj : tn (nI j) = j := tn_nI (by omega)
      refine a_aload_n (pc := 29) (i := 0) dX0_owe_29 rfl rfl ?_
      refine a_getR (pc := 30) dX0_owe_30 fX0_46_0 rfl (hx.s 30 rfl) (by decide) (hx.n (by decide)) (hx.r 30 1 32 rfl) ?_
      refine a_getR (pc := 33) dX0_owe_33 fX0_124_2 rfl (hx.s 32 rfl) (by decide) (hx.n (by decide)) (hx.r 32 2 35 rfl) ?_
      refine a_bipush (pc := 36) (v := 8) dX0_owe_36 (by decide) ?_
      refine a_iload_n (pc := 38) (i := 1) dX0_owe_38 rfl rfl ?_
      refine a_imul (pc := 39) dX0_owe_39 ?_
      refine a_iload_n (pc := 40) (i := 2) dX0_owe_40 rfl rfl ?_
      refine a_iadd (pc := 41) dX0_owe_41 ?_
      refine a_ialdN (pc := 42) dX0_owe_42 (hx.s 35 rfl) (by decide) (hx.n (by decide)) (k := 8 * i + j) (ix8 i j) ⟨by omega, by decide⟩ ?_
      refine a_istore (pc := 43) dX0_owe_43 (by decide) rfl ?_
      refine a_aload_n (pc := 45) (i := 0) dX0_owe_45 rfl rfl ?_
      refine a_getR (pc := 46) dX0_owe_46 fX0_46_0 rfl (hx.s 30 rfl) (by decide) (hx.n (by decide)) (hx.r 30 1 32 rfl) ?_
      refine a_getR (pc := 49) dX0_owe_49 fX0_124_2 rfl (hx.s 32 rfl) (by decide) (hx.n (by decide)) (hx.r 32 2 35 rfl) ?_
      refine a_bipush (pc := 52) (v := 8) dX0_owe_52 (by decide) ?_
      refine a_iload_n (pc := 54) (i := 1) dX0_owe_54 rfl rfl ?_
      refine a_imul (pc := 55) dX0_owe_55 ?_
      refine a_iload_n (pc := 56) (i := 2) dX0_owe_56 rfl rfl ?_
      refine a_iadd (pc := 57) dX0_owe_57 ?_
      refine a_iload_n (pc := 58) (i := 3) dX0_owe_58 rfl rfl ?_
      refine a_iastN (pc := 59) dX0_owe_59 (hx.s 35 rfl) (by decide) (hx.n (by decide)) (k := 8 * i + j) (ix8 i j) ⟨by omega, by decide⟩ ?_
      refine a_iload (pc := 60) dX0_owe_60 rfl ?_
      exact a_iret (pc := 62) dX0_owe_62 rfl (rI_p (by grind [xOwe, bI, gI_pI]))
theorem c_xRain {g : Gl} {h : AH} (hx : Fx h) (v : Int32) : AM g 4 mX0_rain [.ref 30, .int v] h (rI (xRain h v).1 (xRain h v).2) := by
  refine AM.of (by decide) (Nat.le_of_ble_eq_true rfl) ?_
  show AW g mX0_rain 4 _ 0 [some (.ref 30), some (.int v)] [] h
  refine a_aload_n (pc := 0) (i := 0) dX0_rain_0 rfl rfl ?_
  refine a_iload_n (pc := 1) (i := 1) dX0_rain_1 rfl rfl ?_
  refine a_iconst (pc := 2) (v := 0) dX0_rain_2 (by decide) ?_
  refine a_bipush (pc := 3) (v := 9) dX0_rain_3 (by decide) ?_
  refine a_cSi (pc := 5) (c_in _ _ _) sX0_85 dX0_rain_5 rfl rfl (by decide) (Nat.le_of_ble_eq_true rfl) ?_
  refine a_iconst (pc := 8) (v := 1) dX0_rain_8 (by decide) ?_
  refine a_bs1 (fun hP => ?_) (fun hP => ?_)
  · skip
    refine a_cVv (pc := 9) (c_need1 (by exact hx) _) sX0_100_0 dX0_rain_9 (recv_obj (t := 0) rfl (hx.s 30 rfl) (by decide) (hx.n (by decide))) rfl rfl (by decide) (Nat.le_of_ble_eq_true rfl) ?_
    refine a_aload_n (pc := 12) (i := 0) dX0_rain_12 rfl rfl ?_
    refine a_getR (pc := 13) dX0_rain_13 fX0_46_0 rfl (hx.s 30 rfl) (by decide) (hx.n (by decide)) (hx.r 30 1 32 rfl) ?_
    refine a_getI (pc := 16) dX0_rain_16 fX0_141_2 rfl (hx.s 32 rfl) (by decide) (hx.n (by decide)) ?_
    refine a_istore_n (pc := 19) (i := 2) dX0_rain_19 rfl (by decide) rfl ?_
    refine a_aload_n (pc := 20) (i := 0) dX0_rain_20 rfl rfl ?_
    refine a_getR (pc := 21) dX0_rain_21 fX0_46_0 rfl (hx.s 30 rfl) (by decide) (hx.n (by decide)) (hx.r 30 1 32 rfl) ?_
    refine a_iload_n (pc := 24) (i := 1) dX0_rain_24 rfl rfl ?_
    refine a_putI (pc := 25) dX0_rain_25 fX0_141_2 (Or.inl rfl) rfl (hx.s 32 rfl) (by decide) (hx.n (by decide)) rfl rfl ?_
    refine a_iload_n (pc := 28) (i := 2) dX0_rain_28 rfl rfl ?_
    exact a_iret (pc := 29) dX0_rain_29 rfl (rI_p (by grind [xRain, bI, gI_pI]))
  · skip
    refine a_cVt (pc := 9) (c_need0 (by exact hx) _) sX0_100_0 dX0_rain_9 (recv_obj (t := 0) rfl (hx.s 30 rfl) (by decide) (hx.n (by decide))) rfl rfl (by decide) (Nat.le_of_ble_eq_true rfl) ?_
    refine a_catch1 (t := 1) rfl (by decide) (by decide) (by decide) rfl q124 (hx.s 31 rfl) (by decide) (hx.n (by decide)) ?_
    refine a_astore_n (pc := 30) (i := 2) dX0_rain_30 rfl (by decide) rfl ?_
    refine a_aload_n (pc := 31) (i := 0) dX0_rain_31 rfl rfl ?_
    refine a_aload_n (pc := 32) (i := 2) dX0_rain_32 rfl rfl ?_
    refine a_cVi (pc := 33) (c_finds (by exact hx) 1 (by decide)) sX0_109_0 dX0_rain_33 (recv_obj (t := 0) rfl (hx.s 30 rfl) (by decide) (hx.n (by decide))) rfl rfl (by decide) (Nat.le_of_ble_eq_true rfl) ?_
    exact a_iret (pc := 36) dX0_rain_36 rfl (rI_p2 (by grind [xRain, bI]))
theorem c_xSeed {g : Gl} {h : AH} (hx : Fx h) (v : Int32) : AM g 4 mX0_seed [.ref 30, .int v] h (rI (xSeed h v).1 (xSeed h v).2) := by
  refine AM.of (by decide) (Nat.le_of_ble_eq_true rfl) ?_
  show AW g mX0_seed 4 _ 0 [some (.ref 30), some (.int v)] [] h
  refine a_aload_n (pc := 0) (i := 0) dX0_seed_0 rfl rfl ?_
  refine a_getR (pc := 1) dX0_seed_1 fX0_46_0 rfl (hx.s 30 rfl) (by decide) (hx.n (by decide)) (hx.r 30 1 32 rfl) ?_
  refine a_getI (pc := 4) dX0_seed_4 fX0_315_2 rfl (hx.s 32 rfl) (by decide) (hx.n (by decide)) ?_
  refine a_istore_n (pc := 7) (i := 2) dX0_seed_7 rfl (by decide) rfl ?_
  refine a_aload_n (pc := 8) (i := 0) dX0_seed_8 rfl rfl ?_
  refine a_getR (pc := 9) dX0_seed_9 fX0_46_0 rfl (hx.s 30 rfl) (by decide) (hx.n (by decide)) (hx.r 30 1 32 rfl) ?_
  refine a_iload_n (pc := 12) (i := 1) dX0_seed_12 rfl rfl ?_
  refine a_putI (pc := 13) dX0_seed_13 fX0_315_2 (Or.inl rfl) rfl (hx.s 32 rfl) (by decide) (hx.n (by decide)) rfl rfl ?_
  refine a_iload_n (pc := 16) (i := 2) dX0_seed_16 rfl rfl ?_
  exact a_iret (pc := 17) dX0_seed_17 rfl (rI_p (by grind [xSeed, bI, gI_pI]))
theorem c_xTold {g : Gl} {h : AH} (hx : Fx h) (k : Int32) : AM g 4 mX0_told [.ref 30, .int k] h (rI (xTold h k).1 (xTold h k).2) := by
  refine AM.of (by decide) (Nat.le_of_ble_eq_true rfl) ?_
  show AW g mX0_told 4 _ 0 [some (.ref 30), some (.int k)] [] h
  refine a_aload_n (pc := 0) (i := 0) dX0_told_0 rfl rfl ?_
  refine a_iload_n (pc := 1) (i := 1) dX0_told_1 rfl rfl ?_
  refine a_iconst (pc := 2) (v := 1) dX0_told_2 (by decide) ?_
  refine a_iconst (pc := 3) (v := 5) dX0_told_3 (by decide) ?_
  refine a_cSi (pc := 4) (c_in _ _ _) sX0_85 dX0_told_4 rfl rfl (by decide) (Nat.le_of_ble_eq_true rfl) ?_
  refine a_iconst (pc := 7) (v := 1) dX0_told_7 (by decide) ?_
  refine a_bs1 (fun hP => ?_) (fun hP => ?_)
  · skip
    refine a_cVv (pc := 8) (c_need1 (by exact hx) _) sX0_100_0 dX0_told_8 (recv_obj (t := 0) rfl (hx.s 30 rfl) (by decide) (hx.n (by decide))) rfl rfl (by decide) (Nat.le_of_ble_eq_true rfl) ?_
    obtain ⟨j, hj, rfl⟩ := nI_ex (w := k) (M := 5) ⟨by grind, hP.2⟩ (n := 5) rfl
    have tj : tn (nI j) = j := tn_nI (by omega)
    refine a_aload_n (pc := 11) (i := 0) dX0_told_11 rfl rfl ?_
    refine a_getR (pc := 12) dX0_told_12 fX0_63_0 rfl (hx.s 30 rfl) (by decide) (hx.n (by decide)) (hx.r 30 6 76 rfl) ?_
    refine a_iload_n (pc := 15) (i := 1) dX0_told_15 rfl rfl ?_
    refine a_ialdN (pc := 16) dX0_told_16 (hx.s 76 rfl) (by decide) (hx.n (by decide)) (k := j) rfl ⟨by omega, by decide⟩ ?_
    exact a_iret (pc := 17) dX0_told_17 rfl (rI_p (by grind [xTold, bI, gI_pI]))
  · skip
    refine a_cVt (pc := 8) (c_need0 (by exact hx) _) sX0_100_0 dX0_told_8 (recv_obj (t := 0) rfl (hx.s 30 rfl) (by decide) (hx.n (by decide))) rfl rfl (by decide) (Nat.le_of_ble_eq_true rfl) ?_
    refine a_catch1 (t := 1) rfl (by decide) (by decide) (by decide) rfl q124 (hx.s 31 rfl) (by decide) (hx.n (by decide)) ?_
    refine a_astore_n (pc := 18) (i := 2) dX0_told_18 rfl (by decide) rfl ?_
    refine a_aload_n (pc := 19) (i := 0) dX0_told_19 rfl rfl ?_
    refine a_aload_n (pc := 20) (i := 2) dX0_told_20 rfl rfl ?_
    refine a_cVi (pc := 21) (c_finds (by exact hx) 1 (by decide)) sX0_109_0 dX0_told_21 (recv_obj (t := 0) rfl (hx.s 30 rfl) (by decide) (hx.n (by decide))) rfl rfl (by decide) (Nat.le_of_ble_eq_true rfl) ?_
    exact a_iret (pc := 24) dX0_told_24 rfl (rI_p2 (by grind [xTold, bI]))
theorem c_xTrace {g : Gl} {h : AH} (hx : Fx h) (i : Int32) (hm : ∃ n : Nat, n ≤ 40 ∧ gI h 74 1 = nI n) : AM g 4 mX0_trace [.ref 30, .int i] h (rI (xTrace h i).1 (xTrace h i).2) := by
  refine AM.of (by decide) (Nat.le_of_ble_eq_true rfl) ?_
  show AW g mX0_trace 4 _ 0 [some (.ref 30), some (.int i)] [] h
  refine a_aload_n (pc := 0) (i := 0) dX0_trace_0 rfl rfl ?_
  refine a_iload_n (pc := 1) (i := 1) dX0_trace_1 rfl rfl ?_
  refine a_iconst (pc := 2) (v := 0) dX0_trace_2 (by decide) ?_
  refine a_aload_n (pc := 3) (i := 0) dX0_trace_3 rfl rfl ?_
  refine a_getR (pc := 4) dX0_trace_4 fX0_59_0 rfl (hx.s 30 rfl) (by decide) (hx.n (by decide)) (hx.r 30 5 74 rfl) ?_
  refine a_getI (pc := 7) dX0_trace_7 fX0_318_4 rfl (hx.s 74 rfl) (by decide) (hx.n (by decide)) ?_
  refine a_iconst (pc := 10) (v := 1) dX0_trace_10 (by decide) ?_
  refine a_isub (pc := 11) dX0_trace_11 ?_
  refine a_cSi (pc := 12) (c_in _ _ _) sX0_85 dX0_trace_12 rfl rfl (by decide) (Nat.le_of_ble_eq_true rfl) ?_
  refine a_iconst (pc := 15) (v := 2) dX0_trace_15 (by decide) ?_
  refine a_bs1 (fun hP => ?_) (fun hP => ?_)
  · skip
    refine a_cVv (pc := 16) (c_need1 (by exact hx) _) sX0_100_0 dX0_trace_16 (recv_obj (t := 0) rfl (hx.s 30 rfl) (by decide) (hx.n (by decide))) rfl rfl (by decide) (Nat.le_of_ble_eq_true rfl) ?_
    obtain ⟨j, hj, rfl⟩ := nI_lt1 hm hP
    have tj : tn (nI j) = j := tn_nI (by omega)
    refine a_aload_n (pc := 19) (i := 0) dX0_trace_19 rfl rfl ?_
    refine a_getR (pc := 20) dX0_trace_20 fX0_59_0 rfl (hx.s 30 rfl) (by decide) (hx.n (by decide)) (hx.r 30 5 74 rfl) ?_
    refine a_getR (pc := 23) dX0_trace_23 fX0_340_4 rfl (hx.s 74 rfl) (by decide) (hx.n (by decide)) (hx.r 74 0 75 rfl) ?_
    refine a_iload_n (pc := 26) (i := 1) dX0_trace_26 rfl rfl ?_
    refine a_ialdN (pc := 27) dX0_trace_27 (hx.s 75 rfl) (by decide) (hx.n (by decide)) (k := j) rfl ⟨by omega, by decide⟩ ?_
    exact a_iret (pc := 28) dX0_trace_28 rfl (rI_p (by grind [xTrace, bI, gI_pI]))
  · skip
    refine a_cVt (pc := 16) (c_need0 (by exact hx) _) sX0_100_0 dX0_trace_16 (recv_obj (t := 0) rfl (hx.s 30 rfl) (by decide) (hx.n (by decide))) rfl rfl (by decide) (Nat.le_of_ble_eq_true rfl) ?_
    refine a_catch1 (t := 1) rfl (by decide) (by decide) (by decide) rfl q124 (hx.s 31 rfl) (by decide) (hx.n (by decide)) ?_
    refine a_astore_n (pc := 29) (i := 2) dX0_trace_29 rfl (by decide) rfl ?_
    refine a_aload_n (pc := 30) (i := 0) dX0_trace_30 rfl rfl ?_
    refine a_aload_n (pc := 31) (i := 2) dX0_trace_31 rfl rfl ?_
    refine a_cVi (pc := 32) (c_finds (by exact hx) 2 (by decide)) sX0_109_0 dX0_trace_32 (recv_obj (t := 0) rfl (hx.s 30 rfl) (by decide) (hx.n (by decide))) rfl rfl (by decide) (Nat.le_of_ble_eq_true rfl) ?_
    exact a_iret (pc := 35) dX0_trace_35 rfl (rI_p2 (by grind [xTrace, bI]))
theorem c_xTell {g : Gl} {h : AH} (hx : Fx h) (v : Int32) (n : Nat) (hn : n ≤ 20) (hm : gI h 32 17 = nI n) : AM g 4 mX0_tell [.ref 30, .int v] h (rI (xTell h v).1 (xTell h v).2) := by
  refine AM.of (by decide) (Nat.le_of_ble_eq_true rfl) ?_
  show AW g mX0_tell 4 _ 0 [some (.ref 30), some (.int v)] [] h
  have tnn : tn (gI h 32 17) = n := by rw [hm]; exact tn_nI (by omega)
  refine a_aload_n (pc := 0) (i := 0) dX0_tell_0 rfl rfl ?_
  refine a_aload_n (pc := 1) (i := 0) dX0_tell_1 rfl rfl ?_
  refine a_getR (pc := 2) dX0_tell_2 fX0_46_0 rfl (hx.s 30 rfl) (by decide) (hx.n (by decide)) (hx.r 30 1 32 rfl) ?_
  refine a_getI (pc := 5) dX0_tell_5 fX0_373_2 rfl (hx.s 32 rfl) (by decide) (hx.n (by decide)) ?_
  refine a_bipush (pc := 8) (v := 20) dX0_tell_8 (by decide) ?_
  refine a_icmp_ge (pc := 10) (tgt := 17) dX0_tell_10 (by decide) (fun c10 => ?_) (fun c10 => ?_)
  · skip
    refine a_iconst (pc := 17) (v := 0) dX0_tell_17 (by decide) ?_
    refine a_iconst (pc := 18) (v := 4) dX0_tell_18 (by decide) ?_
    refine a_cVt (pc := 19) (c_need0 (by exact hx) _) sX0_100_0 dX0_tell_19 (recv_obj (t := 0) rfl (hx.s 30 rfl) (by decide) (hx.n (by decide))) rfl rfl (by decide) (Nat.le_of_ble_eq_true rfl) ?_
    refine a_catch1 (t := 1) rfl (by decide) (by decide) (by decide) rfl q124 (hx.s 31 rfl) (by decide) (hx.n (by decide)) ?_
    refine a_astore_n (pc := 59) (i := 2) dX0_tell_59 rfl (by decide) rfl ?_
    refine a_aload_n (pc := 60) (i := 0) dX0_tell_60 rfl rfl ?_
    refine a_aload_n (pc := 61) (i := 2) dX0_tell_61 rfl rfl ?_
    refine a_cVi (pc := 62) (c_finds (by exact hx) 4 (by decide)) sX0_109_0 dX0_tell_62 (recv_obj (t := 0) rfl (hx.s 30 rfl) (by decide) (hx.n (by decide))) rfl rfl (by decide) (Nat.le_of_ble_eq_true rfl) ?_
    exact a_iret (pc := 65) dX0_tell_65 rfl (rI_p2 (by grind [xTell, bI]))
  · skip
    refine a_iconst (pc := 13) (v := 1) dX0_tell_13 (by decide) ?_
    refine a_goto (pc := 14) (tgt := 18) dX0_tell_14 (by decide) ?_
    refine a_iconst (pc := 18) (v := 4) dX0_tell_18 (by decide) ?_
    refine a_cVv (pc := 19) (c_need1 (by exact hx) _) sX0_100_0 dX0_tell_19 (recv_obj (t := 0) rfl (hx.s 30 rfl) (by decide) (hx.n (by decide))) rfl rfl (by decide) (Nat.le_of_ble_eq_true rfl) ?_
    have hlt : n < 20 := by
      rcases Nat.lt_or_ge n 20 with q | q
      · exact q
      · exact absurd (by rw [hm]; exact nI_le q (by omega)) c10
    refine a_aload_n (pc := 22) (i := 0) dX0_tell_22 rfl rfl ?_
    refine a_getR (pc := 23) dX0_tell_23 fX0_46_0 rfl (hx.s 30 rfl) (by decide) (hx.n (by decide)) (hx.r 30 1 32 rfl) ?_
    refine a_getR (pc := 26) dX0_tell_26 fX0_376_2 rfl (hx.s 32 rfl) (by decide) (hx.n (by decide)) (hx.r 32 16 43 rfl) ?_
    refine a_aload_n (pc := 29) (i := 0) dX0_tell_29 rfl rfl ?_
    refine a_getR (pc := 30) dX0_tell_30 fX0_46_0 rfl (hx.s 30 rfl) (by decide) (hx.n (by decide)) (hx.r 30 1 32 rfl) ?_
    refine a_getI (pc := 33) dX0_tell_33 fX0_373_2 rfl (hx.s 32 rfl) (by decide) (hx.n (by decide)) ?_
    refine a_iload_n (pc := 36) (i := 1) dX0_tell_36 rfl rfl ?_
    refine a_iastN (pc := 37) dX0_tell_37 (hx.s 43 rfl) (by decide) (hx.n (by decide)) (k := n) hm ⟨hlt, by decide⟩ ?_
    refine a_aload_n (pc := 38) (i := 0) dX0_tell_38 rfl rfl ?_
    refine a_getR (pc := 39) dX0_tell_39 fX0_46_0 rfl (hx.s 30 rfl) (by decide) (hx.n (by decide)) (hx.r 30 1 32 rfl) ?_
    refine a_dup (pc := 42) dX0_tell_42 rfl ?_
    refine a_getI (pc := 43) dX0_tell_43 fX0_373_2 rfl (hx.s 32 rfl) (by decide) (hx.n (by decide)) ?_
    refine a_iconst (pc := 46) (v := 1) dX0_tell_46 (by decide) ?_
    refine a_iadd (pc := 47) dX0_tell_47 ?_
    refine a_putI (pc := 48) dX0_tell_48 fX0_373_2 (Or.inl rfl) rfl (hx.s 32 rfl) (by decide) (hx.n (by decide)) rfl rfl ?_
    refine a_aload_n (pc := 51) (i := 0) dX0_tell_51 rfl rfl ?_
    refine a_getR (pc := 52) dX0_tell_52 fX0_46_0 rfl (hx.s 30 rfl) (by decide) (hx.n (by decide)) (hx.r 30 1 32 rfl) ?_
    refine a_getI (pc := 55) dX0_tell_55 fX0_373_2 rfl (hx.s 32 rfl) (by decide) (hx.n (by decide)) ?_
    exact a_iret (pc := 58) dX0_tell_58 rfl (rI_p (by grind [xTell, bI, gI_pI]))
