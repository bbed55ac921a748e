/-! ===== terms, facts, people of kinds (printed by gen/p61.py) ===== -/
theorem bI_c {P Q : Prop} [Decidable P] [Decidable Q] (h : P ↔ Q) : bI P = bI Q := by
  unfold bI
  simp only [h]
def ValOK (g : Gl) (h : AH) (L r : Nat) (x : Int32) : Prop := ∃ t, gS h r = (t, 0) ∧ 30 ≤ r ∧ r < gN h ∧ ((t = 15 ∧ AM g L mX15_value [.ref r, .ref 44] h (rI x h)) ∨ (t = 17 ∧ AM g L mX17_value [.ref r, .ref 44] h (rI x h)) ∨ (t = 19 ∧ AM g L mX19_value [.ref r, .ref 44] h (rI x h)) ∨ (t = 20 ∧ AM g L mX20_value [.ref r, .ref 44] h (rI x h)))
theorem d_val_X2 {g : Gl} {M : MI} {d : Nat} {Q : Outcome → AH → Prop} {pc L r : Nat} {ls : List (Option Value)} {st : List Value} {h : AH} {x : Int32} (hv : ValOK g h L r x) (hc : M.1.cls = RX2) (hd : decode M.2.1 pc = .ok (.invokevirtual 101, 3)) (hL : L + 1 ≤ d) (hw : (st.map fun v => v.category).sum ≤ 40) (k : AW g M d Q (pc + 3) ls (.int x :: st) h) : AW g M d Q pc ls (.ref 44 :: .ref r :: st) h := by
  obtain ⟨t, hs, hr, hn, hv⟩ := hv
  rcases hv with ⟨rfl, hv⟩ | ⟨rfl, hv⟩ | ⟨rfl, hv⟩ | ⟨rfl, hv⟩
  · exact a_cUi hv (by rw [hc]; exact sX2_101_15) hd (recv_obj (t := 15) rfl hs hr hn) rfl rfl hL hw k
  · exact a_cUi hv (by rw [hc]; exact sX2_101_17) hd (recv_obj (t := 17) rfl hs hr hn) rfl rfl hL hw k
  · exact a_cUi hv (by rw [hc]; exact sX2_101_19) hd (recv_obj (t := 19) rfl hs hr hn) rfl rfl hL hw k
  · exact a_cUi hv (by rw [hc]; exact sX2_101_20) hd (recv_obj (t := 20) rfl hs hr hn) rfl rfl hL hw k
theorem d_val_X15 {g : Gl} {M : MI} {d : Nat} {Q : Outcome → AH → Prop} {pc L r : Nat} {ls : List (Option Value)} {st : List Value} {h : AH} {x : Int32} (hv : ValOK g h L r x) (hc : M.1.cls = RX15) (hd : decode M.2.1 pc = .ok (.invokevirtual 20, 3)) (hL : L + 1 ≤ d) (hw : (st.map fun v => v.category).sum ≤ 40) (k : AW g M d Q (pc + 3) ls (.int x :: st) h) : AW g M d Q pc ls (.ref 44 :: .ref r :: st) h := by
  obtain ⟨t, hs, hr, hn, hv⟩ := hv
  rcases hv with ⟨rfl, hv⟩ | ⟨rfl, hv⟩ | ⟨rfl, hv⟩ | ⟨rfl, hv⟩
  · exact a_cUi hv (by rw [hc]; exact sX15_20_15) hd (recv_obj (t := 15) rfl hs hr hn) rfl rfl hL hw k
  · exact a_cUi hv (by rw [hc]; exact sX15_20_17) hd (recv_obj (t := 17) rfl hs hr hn) rfl rfl hL hw k
  · exact a_cUi hv (by rw [hc]; exact sX15_20_19) hd (recv_obj (t := 19) rfl hs hr hn) rfl rfl hL hw k
  · exact a_cUi hv (by rw [hc]; exact sX15_20_20) hd (recv_obj (t := 20) rfl hs hr hn) rfl rfl hL hw k
theorem d_val_X19 {g : Gl} {M : MI} {d : Nat} {Q : Outcome → AH → Prop} {pc L r : Nat} {ls : List (Option Value)} {st : List Value} {h : AH} {x : Int32} (hv : ValOK g h L r x) (hc : M.1.cls = RX19) (hd : decode M.2.1 pc = .ok (.invokevirtual 13, 3)) (hL : L + 1 ≤ d) (hw : (st.map fun v => v.category).sum ≤ 40) (k : AW g M d Q (pc + 3) ls (.int x :: st) h) : AW g M d Q pc ls (.ref 44 :: .ref r :: st) h := by
  obtain ⟨t, hs, hr, hn, hv⟩ := hv
  rcases hv with ⟨rfl, hv⟩ | ⟨rfl, hv⟩ | ⟨rfl, hv⟩ | ⟨rfl, hv⟩
  · exact a_cUi hv (by rw [hc]; exact sX19_13_15) hd (recv_obj (t := 15) rfl hs hr hn) rfl rfl hL hw k
  · exact a_cUi hv (by rw [hc]; exact sX19_13_17) hd (recv_obj (t := 17) rfl hs hr hn) rfl rfl hL hw k
  · exact a_cUi hv (by rw [hc]; exact sX19_13_19) hd (recv_obj (t := 19) rfl hs hr hn) rfl rfl hL hw k
  · exact a_cUi hv (by rw [hc]; exact sX19_13_20) hd (recv_obj (t := 20) rfl hs hr hn) rfl rfl hL hw k
theorem c_is {g : Gl} {h : AH} (b : Int32) : AM g 1 mX15_is [.int b] h (rI (if b = 0 then 0 else 1) h) := by
  refine AM.of (by decide) (Nat.le_of_ble_eq_true rfl) ?_
  show AW g mX15_is 1 _ 0 [some (.int b)] [] h
  refine a_iload_n (pc := 0) (i := 0) dX15_is_0 rfl rfl ?_
  refine a_if_eq (pc := 1) (tgt := 8) dX15_is_1 (by decide) (fun c1 => ?_) (fun c1 => ?_)
  · skip
    refine a_iconst (pc := 8) (v := 0) dX15_is_8 (by decide) ?_
    exact a_iret (pc := 9) dX15_is_9 rfl (rI_of (by grind) rfl)
  · skip
    refine a_iconst (pc := 4) (v := 1) dX15_is_4 (by decide) ?_
    refine a_goto (pc := 5) (tgt := 9) dX15_is_5 (by decide) ?_
    exact a_iret (pc := 9) dX15_is_9 rfl (rI_of (by grind) rfl)
theorem c_v20 {g : Gl} {h : AH} (hx : Fx h) (r : Nat) (hs : gS h r = (20, 0)) (hr : 30 ≤ r) (hn : r < gN h) : AM g 1 mX20_value [.ref r, .ref 44] h (rI (gI h r 0) h) := by
  refine AM.of (by decide) (Nat.le_of_ble_eq_true rfl) ?_
  show AW g mX20_value 1 _ 0 [some (.ref r), some (.ref 44)] [] h
  refine a_aload_n (pc := 0) (i := 0) dX20_value_0 rfl rfl ?_
  refine a_getI (pc := 1) dX20_value_1 fX20_7_20 rfl hs hr hn ?_
  exact a_iret (pc := 4) dX20_value_4 rfl (rI_of rfl rfl)
theorem c_v17 {g : Gl} {h : AH} (hx : Fx h) (r : Nat) (k : Nat) (hk : k < 128) (e : gI h r 0 = nI k) (hs : gS h r = (17, 0)) (hr : 30 ≤ r) (hn : r < gN h) : AM g 1 mX17_value [.ref r, .ref 44] h (rI (gI h 45 k) h) := by
  refine AM.of (by decide) (Nat.le_of_ble_eq_true rfl) ?_
  show AW g mX17_value 1 _ 0 [some (.ref r), some (.ref 44)] [] h
  refine a_aload_n (pc := 0) (i := 1) dX17_value_0 rfl rfl ?_
  refine a_getR (pc := 1) dX17_value_1 fX17_13_3 rfl (hx.s 44 rfl) (by decide) (hx.n (by decide)) (hx.r 44 0 45 rfl) ?_
  refine a_aload_n (pc := 4) (i := 0) dX17_value_4 rfl rfl ?_
  refine a_getI (pc := 5) dX17_value_5 fX17_7_17 rfl hs hr hn ?_
  refine a_ialdN (pc := 8) dX17_value_8 (hx.s 45 rfl) (by decide) (hx.n (by decide)) (k := k) e ⟨hk, by decide⟩ ?_
  exact a_iret (pc := 9) dX17_value_9 rfl (rI_of rfl rfl)
theorem c_v19 {g : Gl} {h : AH} (hx : Fx h) (r : Nat) (L a : Nat) (x : Int32) (e : gR h r 0 = some a) (va : ValOK g h L a x) (hs : gS h r = (19, 0)) (hr : 30 ≤ r) (hn : r < gN h) : AM g (L + 1) mX19_value [.ref r, .ref 44] h (rI (bI (x = 0)) h) := by
  refine AM.of (by decide) (Nat.le_of_ble_eq_true rfl) ?_
  show AW g mX19_value (L + 1) _ 0 [some (.ref r), some (.ref 44)] [] h
  refine a_aload_n (pc := 0) (i := 0) dX19_value_0 rfl rfl ?_
  refine a_getR (pc := 1) dX19_value_1 fX19_7_19 rfl hs hr hn e ?_
  refine a_aload_n (pc := 4) (i := 1) dX19_value_4 rfl rfl ?_
  refine d_val_X19 (pc := 5) va rfl dX19_value_5 (Nat.le_refl _) (Nat.le_of_ble_eq_true rfl) ?_
  refine a_if_ne (pc := 8) (tgt := 15) dX19_value_8 (by decide) (fun c8 => ?_) (fun c8 => ?_)
  · skip
    refine a_iconst (pc := 15) (v := 0) dX19_value_15 (by decide) ?_
    exact a_iret (pc := 16) dX19_value_16 rfl (rI_of (by grind [bI]) rfl)
  · skip
    refine a_iconst (pc := 11) (v := 1) dX19_value_11 (by decide) ?_
    refine a_goto (pc := 12) (tgt := 16) dX19_value_12 (by decide) ?_
    exact a_iret (pc := 16) dX19_value_16 rfl (rI_of (by grind [bI]) rfl)
theorem c_v15 {g : Gl} {h : AH} (hx : Fx h) (r : Nat) (L a b : Nat) (x y : Int32) (ea : gR h r 1 = some a) (eb : gR h r 2 = some b) (va : ValOK g h L a x) (vb : ValOK g h L b y) (hsg : gI h r 0 ∈ ([42, 47, 37, 43, 45, 60, 61, 62, 38, 124] : List Int32)) (hL : 1 ≤ L) (hs : gS h r = (15, 0)) (hr : 30 ≤ r) (hn : r < gN h) : AM g (L + 1) mX15_value [.ref r, .ref 44] h (rI (two (gI h r 0) x y) h) := by
  refine AM.of (by decide) (Nat.le_of_ble_eq_true rfl) ?_
  show AW g mX15_value (L + 1) _ 0 [some (.ref r), some (.ref 44)] [] h
  refine a_aload_n (pc := 0) (i := 0) dX15_value_0 rfl rfl ?_
  refine a_getR (pc := 1) dX15_value_1 fX15_13_15 rfl hs hr hn ea ?_
  refine a_aload_n (pc := 4) (i := 1) dX15_value_4 rfl rfl ?_
  refine d_val_X15 (pc := 5) va rfl dX15_value_5 (Nat.le_refl _) (Nat.le_of_ble_eq_true rfl) ?_
  refine a_istore_n (pc := 8) (i := 2) dX15_value_8 rfl (by decide) rfl ?_
  refine a_aload_n (pc := 9) (i := 0) dX15_value_9 rfl rfl ?_
  refine a_getR (pc := 10) dX15_value_10 fX15_17_15 rfl hs hr hn eb ?_
  refine a_aload_n (pc := 13) (i := 1) dX15_value_13 rfl rfl ?_
  refine d_val_X15 (pc := 14) vb rfl dX15_value_14 (Nat.le_refl _) (Nat.le_of_ble_eq_true rfl) ?_
  refine a_istore_n (pc := 17) (i := 3) dX15_value_17 rfl (by decide) rfl ?_
  refine a_aload_n (pc := 18) (i := 0) dX15_value_18 rfl rfl ?_
  refine a_getI (pc := 19) dX15_value_19 fX15_7_15 rfl hs hr hn ?_
  simp only [List.mem_cons, List.not_mem_nil, or_false] at hsg
  rcases hsg with e | e | e | e | e | e | e | e | e | e
  · rw [e]
    refine a_tblIn (pc := 22) (tgt := 148) dX15_value_22 (by decide) (by decide) rfl (by decide) ?_
    refine a_iload_n (pc := 148) (i := 2) dX15_value_148 rfl rfl ?_
    refine a_iload_n (pc := 149) (i := 3) dX15_value_149 rfl rfl ?_
    refine a_imul (pc := 150) dX15_value_150 ?_
    exact a_iret (pc := 151) dX15_value_151 rfl (rI_of (by simp [two, bI]; try grind) rfl)
  · rw [e]
    refine a_tblIn (pc := 22) (tgt := 152) dX15_value_22 (by decide) (by decide) rfl (by decide) ?_
    refine a_iload_n (pc := 152) (i := 3) dX15_value_152 rfl rfl ?_
    refine a_if_ne (pc := 153) (tgt := 160) dX15_value_153 (by decide) (fun c153 => ?_) (fun c153 => ?_)
    · skip
      refine a_iload_n (pc := 160) (i := 2) dX15_value_160 rfl rfl ?_
      refine a_iload_n (pc := 161) (i := 3) dX15_value_161 rfl rfl ?_
      refine a_idiv (pc := 162) dX15_value_162 c153 ?_
      exact a_iret (pc := 163) dX15_value_163 rfl (rI_of (by simp [two, bI]; try grind) rfl)
    · skip
      refine a_iconst (pc := 156) (v := 0) dX15_value_156 (by decide) ?_
      refine a_goto (pc := 157) (tgt := 163) dX15_value_157 (by decide) ?_
      exact a_iret (pc := 163) dX15_value_163 rfl (rI_of (by simp [two, bI]; try grind) rfl)
  · rw [e]
    refine a_tblIn (pc := 22) (tgt := 164) dX15_value_22 (by decide) (by decide) rfl (by decide) ?_
    refine a_iload_n (pc := 164) (i := 3) dX15_value_164 rfl rfl ?_
    refine a_if_ne (pc := 165) (tgt := 172) dX15_value_165 (by decide) (fun c165 => ?_) (fun c165 => ?_)
    · skip
      refine a_iload_n (pc := 172) (i := 2) dX15_value_172 rfl rfl ?_
      refine a_iload_n (pc := 173) (i := 3) dX15_value_173 rfl rfl ?_
      refine a_irem (pc := 174) dX15_value_174 c165 ?_
      exact a_iret (pc := 175) dX15_value_175 rfl (rI_of (by simp [two, bI]; try grind) rfl)
    · skip
      refine a_iconst (pc := 168) (v := 0) dX15_value_168 (by decide) ?_
      refine a_goto (pc := 169) (tgt := 175) dX15_value_169 (by decide) ?_
      exact a_iret (pc := 175) dX15_value_175 rfl (rI_of (by simp [two, bI]; try grind) rfl)
  · rw [e]
    refine a_tblIn (pc := 22) (tgt := 140) dX15_value_22 (by decide) (by decide) rfl (by decide) ?_
    refine a_iload_n (pc := 140) (i := 2) dX15_value_140 rfl rfl ?_
    refine a_iload_n (pc := 141) (i := 3) dX15_value_141 rfl rfl ?_
    refine a_iadd (pc := 142) dX15_value_142 ?_
    exact a_iret (pc := 143) dX15_value_143 rfl (rI_of (by simp [two, bI]; try grind) rfl)
  · rw [e]
    refine a_tblIn (pc := 22) (tgt := 144) dX15_value_22 (by decide) (by decide) rfl (by decide) ?_
    refine a_iload_n (pc := 144) (i := 2) dX15_value_144 rfl rfl ?_
    refine a_iload_n (pc := 145) (i := 3) dX15_value_145 rfl rfl ?_
    refine a_isub (pc := 146) dX15_value_146 ?_
    exact a_iret (pc := 147) dX15_value_147 rfl (rI_of (by simp [two, bI]; try grind) rfl)
  · rw [e]
    refine a_tblIn (pc := 22) (tgt := 176) dX15_value_22 (by decide) (by decide) rfl (by decide) ?_
    refine a_iload_n (pc := 176) (i := 2) dX15_value_176 rfl rfl ?_
    refine a_iload_n (pc := 177) (i := 3) dX15_value_177 rfl rfl ?_
    refine a_icmp_ge (pc := 178) (tgt := 185) dX15_value_178 (by decide) (fun c178 => ?_) (fun c178 => ?_)
    · skip
      refine a_iconst (pc := 185) (v := 0) dX15_value_185 (by decide) ?_
      refine a_cSi (pc := 186) (c_is _) sX15_24 dX15_value_186 rfl rfl (by omega) (Nat.le_of_ble_eq_true rfl) ?_
      exact a_iret (pc := 189) dX15_value_189 rfl (rI_of (by simp [two, bI]; try grind) rfl)
    · skip
      refine a_iconst (pc := 181) (v := 1) dX15_value_181 (by decide) ?_
      refine a_goto (pc := 182) (tgt := 186) dX15_value_182 (by decide) ?_
      refine a_cSi (pc := 186) (c_is _) sX15_24 dX15_value_186 rfl rfl (by omega) (Nat.le_of_ble_eq_true rfl) ?_
      exact a_iret (pc := 189) dX15_value_189 rfl (rI_of (by simp [two, bI]; try grind) rfl)
  · rw [e]
    refine a_tblIn (pc := 22) (tgt := 190) dX15_value_22 (by decide) (by decide) rfl (by decide) ?_
    refine a_iload_n (pc := 190) (i := 2) dX15_value_190 rfl rfl ?_
    refine a_iload_n (pc := 191) (i := 3) dX15_value_191 rfl rfl ?_
    refine a_icmp_ne (pc := 192) (tgt := 199) dX15_value_192 (by decide) (fun c192 => ?_) (fun c192 => ?_)
    · skip
      refine a_iconst (pc := 199) (v := 0) dX15_value_199 (by decide) ?_
      refine a_cSi (pc := 200) (c_is _) sX15_24 dX15_value_200 rfl rfl (by omega) (Nat.le_of_ble_eq_true rfl) ?_
      exact a_iret (pc := 203) dX15_value_203 rfl (rI_of (by simp [two, bI]; try grind) rfl)
    · skip
      refine a_iconst (pc := 195) (v := 1) dX15_value_195 (by decide) ?_
      refine a_goto (pc := 196) (tgt := 200) dX15_value_196 (by decide) ?_
      refine a_cSi (pc := 200) (c_is _) sX15_24 dX15_value_200 rfl rfl (by omega) (Nat.le_of_ble_eq_true rfl) ?_
      exact a_iret (pc := 203) dX15_value_203 rfl (rI_of (by simp [two, bI]; try grind) rfl)
  · rw [e]
    refine a_tblIn (pc := 22) (tgt := 204) dX15_value_22 (by decide) (by decide) rfl (by decide) ?_
    refine a_iload_n (pc := 204) (i := 2) dX15_value_204 rfl rfl ?_
    refine a_iload_n (pc := 205) (i := 3) dX15_value_205 rfl rfl ?_
    refine a_icmp_le (pc := 206) (tgt := 213) dX15_value_206 (by decide) (fun c206 => ?_) (fun c206 => ?_)
    · skip
      refine a_iconst (pc := 213) (v := 0) dX15_value_213 (by decide) ?_
      refine a_cSi (pc := 214) (c_is _) sX15_24 dX15_value_214 rfl rfl (by omega) (Nat.le_of_ble_eq_true rfl) ?_
      exact a_iret (pc := 217) dX15_value_217 rfl (rI_of (by simp [two, bI]; try grind) rfl)
    · skip
      refine a_iconst (pc := 209) (v := 1) dX15_value_209 (by decide) ?_
      refine a_goto (pc := 210) (tgt := 214) dX15_value_210 (by decide) ?_
      refine a_cSi (pc := 214) (c_is _) sX15_24 dX15_value_214 rfl rfl (by omega) (Nat.le_of_ble_eq_true rfl) ?_
      exact a_iret (pc := 217) dX15_value_217 rfl (rI_of (by simp [two, bI]; try grind) rfl)
  · rw [e]
    refine a_tblIn (pc := 22) (tgt := 218) dX15_value_22 (by decide) (by decide) rfl (by decide) ?_
    refine a_iload_n (pc := 218) (i := 2) dX15_value_218 rfl rfl ?_
    refine a_if_eq (pc := 219) (tgt := 230) dX15_value_219 (by decide) (fun c219 => ?_) (fun c219 => ?_)
    · skip
      refine a_iconst (pc := 230) (v := 0) dX15_value_230 (by decide) ?_
      refine a_cSi (pc := 231) (c_is _) sX15_24 dX15_value_231 rfl rfl (by omega) (Nat.le_of_ble_eq_true rfl) ?_
      exact a_iret (pc := 234) dX15_value_234 rfl (rI_of (by simp [two, bI]; try grind) rfl)
    · skip
      refine a_iload_n (pc := 222) (i := 3) dX15_value_222 rfl rfl ?_
      refine a_if_eq (pc := 223) (tgt := 230) dX15_value_223 (by decide) (fun c223 => ?_) (fun c223 => ?_)
      · skip
        refine a_iconst (pc := 230) (v := 0) dX15_value_230 (by decide) ?_
        refine a_cSi (pc := 231) (c_is _) sX15_24 dX15_value_231 rfl rfl (by omega) (Nat.le_of_ble_eq_true rfl) ?_
        exact a_iret (pc := 234) dX15_value_234 rfl (rI_of (by simp [two, bI]; try grind) rfl)
      · skip
        refine a_iconst (pc := 226) (v := 1) dX15_value_226 (by decide) ?_
        refine a_goto (pc := 227) (tgt := 231) dX15_value_227 (by decide) ?_
        refine a_cSi (pc := 231) (c_is _) sX15_24 dX15_value_231 rfl rfl (by omega) (Nat.le_of_ble_eq_true rfl) ?_
        exact a_iret (pc := 234) dX15_value_234 rfl (rI_of (by simp [two, bI]; try grind) rfl)
  · rw [e]
    refine a_tblOut (pc := 22) (tgt := 235) dX15_value_22 (by decide) (by decide) ?_
    refine a_iload_n (pc := 235) (i := 2) dX15_value_235 rfl rfl ?_
    refine a_if_ne (pc := 236) (tgt := 243) dX15_value_236 (by decide) (fun c236 => ?_) (fun c236 => ?_)
    · skip
      refine a_iconst (pc := 243) (v := 1) dX15_value_243 (by decide) ?_
      refine a_goto (pc := 244) (tgt := 248) dX15_value_244 (by decide) ?_
      refine a_cSi (pc := 248) (c_is _) sX15_24 dX15_value_248 rfl rfl (by omega) (Nat.le_of_ble_eq_true rfl) ?_
      exact a_iret (pc := 251) dX15_value_251 rfl (rI_of (by simp [two, bI]; try grind) rfl)
    · skip
      refine a_iload_n (pc := 239) (i := 3) dX15_value_239 rfl rfl ?_
      refine a_if_eq (pc := 240) (tgt := 247) dX15_value_240 (by decide) (fun c240 => ?_) (fun c240 => ?_)
      · skip
        refine a_iconst (pc := 247) (v := 0) dX15_value_247 (by decide) ?_
        refine a_cSi (pc := 248) (c_is _) sX15_24 dX15_value_248 rfl rfl (by omega) (Nat.le_of_ble_eq_true rfl) ?_
        exact a_iret (pc := 251) dX15_value_251 rfl (rI_of (by simp [two, bI]; try grind) rfl)
      · skip
        refine a_iconst (pc := 243) (v := 1) dX15_value_243 (by decide) ?_
        refine a_goto (pc := 244) (tgt := 248) dX15_value_244 (by decide) ?_
        refine a_cSi (pc := 248) (c_is _) sX15_24 dX15_value_248 rfl rfl (by omega) (Nat.le_of_ble_eq_true rfl) ?_
        exact a_iret (pc := 251) dX15_value_251 rfl (rI_of (by simp [two, bI]; try grind) rfl)
theorem c_val {g : Gl} {h : AH} (hx : Fx h) : ∀ (n r : Nat) (v : Vf), TOK h n r v → ValOK g h n r (v (gI h 45))
  | 0, r, v, q => absurd q id
  | n + 1, r, v, q => by
    obtain ⟨h1, hn, q⟩ := q
    have hr : 30 ≤ r := by omega
    rcases q with ⟨s, e⟩ | ⟨s, k, hk, e, ev⟩ | ⟨s, a, w, e, t, ev⟩ | ⟨s, sg, a, b, w, z, ea, eb, ta, tb, ev⟩
    · exact ⟨20, s, hr, hn, Or.inr (Or.inr (Or.inr ⟨rfl, by subst e; exact (c_v20 hx r s hr hn).deep (by omega)⟩))⟩
    · exact ⟨17, s, hr, hn, Or.inr (Or.inl ⟨rfl, by subst ev; exact (c_v17 hx r k hk e s hr hn).deep (by omega)⟩)⟩
    · exact ⟨19, s, hr, hn, Or.inr (Or.inr (Or.inl ⟨rfl, by subst ev; exact c_v19 hx r n a _ e (c_val hx n a w t) s hr hn⟩))⟩
    · have h1 : 1 ≤ n := by
        cases n with
        | zero => exact absurd ta id
        | succ n => omega
      exact ⟨15, s, hr, hn, Or.inl ⟨rfl, by subst ev; exact c_v15 hx r n a b _ _ ea eb (c_val hx n a w ta) (c_val hx n b z tb) sg h1 s hr hn⟩⟩
theorem c_with {g : Gl} {h : AH} (hx : Fx h) (k : Nat) (hk : k < 128) {c : Int32} (hc : c = nI k) (v : Int32) : AM g 1 mX3_with [.ref 44, .int c, .int v] h (rR (some 44) (pI h 45 k v)) := by
  refine AM.of (by decide) (Nat.le_of_ble_eq_true rfl) ?_
  show AW g mX3_with 1 _ 0 [some (.ref 44), some (.int c), some (.int v)] [] h
  subst hc
  refine a_aload_n (pc := 0) (i := 0) dX3_with_0 rfl rfl ?_
  refine a_getR (pc := 1) dX3_with_1 fX3_7_3 rfl (hx.s 44 rfl) (by decide) (hx.n (by decide)) (hx.r 44 0 45 rfl) ?_
  refine a_iload_n (pc := 4) (i := 1) dX3_with_4 rfl rfl ?_
  refine a_iload_n (pc := 5) (i := 2) dX3_with_5 rfl rfl ?_
  refine a_iastN (pc := 6) dX3_with_6 (hx.s 45 rfl) (by decide) (hx.n (by decide)) (k := k) rfl ⟨hk, by decide⟩ ?_
  refine a_aload_n (pc := 7) (i := 0) dX3_with_7 rfl rfl ?_
  exact a_aret (pc := 8) (r := some 44) rfl dX3_with_8 rfl rfl (rR_of rfl rfl)
theorem needed_eq {D : De} {v : Vf} {m t d : Int32} (h0 : ¬ D 11 0 < 0) (hp : pTxt (D 12) (tn (D 11 0)) 0 = (tn (D 11 0), some v)) (F : Nat → Int32) (e1 : F 109 = m) (e2 : F 116 = t) (e3 : F 100 = d) : hld (v F) = needed D m t d := by
  unfold needed txt
  rw [if_neg h0]
  show hld (v F) = hld (match (pTxt (D 12) (tn (D 11 0)) 0).2 with | none => 0 | some v => v _)
  have hd := (pTxt_gd (D 12) (tn (D 11 0)) 0).2 v (by rw [hp])
  rw [hp]
  show hld (v F) = hld (v _)
  congr 1
  refine hd _ _ (fun k hk h8 => ?_)
  have hk2 : k = 109 ∨ k = 116 ∨ k = 100 := by
    have e (j : Nat) (hj : j < 128) (h : nI k = nI j) : k = j := (nI_eq (by omega) (by omega)).mp h
    rcases hk with ⟨z, h | h | h⟩ | ⟨z, h | h | h⟩
    · exact Or.inl (e 109 (by decide) h)
    · exact Or.inr (Or.inl (e 116 (by decide) h))
    · exact Or.inr (Or.inr (e 100 (by decide) h))
    · exact absurd rfl z
    · exact absurd rfl z
    · exact absurd rfl z
  rcases hk2 with rfl | rfl | rfl
  · exact e1
  · exact e2
  · exact e3
theorem parch_eq {D : De} {v : Vf} {m t d : Int32} (h0 : ¬ D 11 1 < 0) (hp : pTxt (D 13) (tn (D 11 1)) 1 = (tn (D 11 1), some v)) (F : Nat → Int32) (e1 : F 108 = m) (e2 : F 109 = t) (e3 : F 100 = d) : hld (v F) = parch D m t d := by
  unfold parch txt
  rw [if_neg h0]
  show hld (v F) = hld (match (pTxt (D 13) (tn (D 11 1)) 1).2 with | none => 0 | some v => v _)
  have hd := (pTxt_gd (D 13) (tn (D 11 1)) 1).2 v (by rw [hp])
  rw [hp]
  show hld (v F) = hld (v _)
  congr 1
  refine hd _ _ (fun k hk h8 => ?_)
  have hk2 : k = 108 ∨ k = 109 ∨ k = 100 := by
    have e (j : Nat) (hj : j < 128) (h : nI k = nI j) : k = j := (nI_eq (by omega) (by omega)).mp h
    rcases hk with ⟨z, h | h | h⟩ | ⟨z, h | h | h⟩
    · exact absurd z (by decide)
    · exact absurd z (by decide)
    · exact absurd z (by decide)
    · exact Or.inl (e 108 (by decide) h)
    · exact Or.inr (Or.inl (e 109 (by decide) h))
    · exact Or.inr (Or.inr (e 100 (by decide) h))
  rcases hk2 with rfl | rfl | rfl
  · exact e1
  · exact e2
  · exact e3
theorem h_hld (v : Int32) : (if 0 < (if v < 99 then v else 99) then (if v < 99 then v else 99) else 0) = hld v := by
  unfold hld
  grind
theorem c_needsBy0 {g : Gl} {h : AH} (hx : Fx h) {D : De} (q : D 11 0 = -1 ∧ gR h 41 0 = none) (m t d : Int32) : AM g 3 mX2_needsBy [.ref 32, .int m, .int t, .int d] h (eI (needed D m t d) (fun h2 => Sm [45] h h2)) := by
  refine AM.of (by decide) (Nat.le_of_ble_eq_true rfl) ?_
  show AW g mX2_needsBy 3 _ 0 [some (.ref 32), some (.int m), some (.int t), some (.int d)] [] h
  refine a_aload_n (pc := 0) (i := 0) dX2_needsBy_0 rfl rfl ?_
  refine a_getR (pc := 1) dX2_needsBy_1 fX2_46_2 rfl (hx.s 32 rfl) (by decide) (hx.n (by decide)) (hx.r 32 12 41 rfl) ?_
  refine a_iconst (pc := 4) (v := 0) dX2_needsBy_4 (by decide) ?_
  refine a_aaldN (pc := 5) (v := .null) dX2_needsBy_5 (hx.s 41 rfl) (by decide) (hx.n (by decide)) (by decide) (by decide) (k := 0) rfl (by decide) (by rw [q.2]; rfl) ?_
  refine a_ifnonnullN (pc := 6) dX2_needsBy_6 ?_
  refine a_iconst (pc := 9) (v := 1) dX2_needsBy_9 (by decide) ?_
  refine a_iload_n (pc := 10) (i := 2) dX2_needsBy_10 rfl rfl ?_
  refine a_iconst (pc := 11) (v := 4) dX2_needsBy_11 (by decide) ?_
  refine a_idiv (pc := 12) dX2_needsBy_12 (by decide) ?_
  refine a_iadd (pc := 13) dX2_needsBy_13 ?_
  refine a_goto (pc := 14) (tgt := 48) dX2_needsBy_14 (by decide) ?_
  refine a_istore (pc := 48) dX2_needsBy_48 (by decide) rfl ?_
  refine a_iload (pc := 50) dX2_needsBy_50 rfl ?_
  refine a_iconst (pc := 52) (v := 0) dX2_needsBy_52 (by decide) ?_
  refine a_bipush (pc := 53) (v := 99) dX2_needsBy_53 (by decide) ?_
  refine a_cSi (pc := 55) (c_held _ _ _) sX2_105 dX2_needsBy_55 rfl rfl (by decide) (Nat.le_of_ble_eq_true rfl) ?_
  exact a_iret (pc := 58) dX2_needsBy_58 rfl (eI_of (by rw [h_hld]; unfold needed; rw [q.1]; rfl) (Sm.rf h))
theorem c_needsBy1 {g : Gl} {h : AH} (hx : Fx h) {D : De} {r : Nat} {v : Vf} (q : ¬ D 11 0 < 0 ∧ gR h 41 0 = some r ∧ pTxt (D 12) (tn (D 11 0)) 0 = (tn (D 11 0), some v) ∧ TOK h 51 r v) (m t d : Int32) : AM g 60 mX2_needsBy [.ref 32, .int m, .int t, .int d] h (eI (needed D m t d) (fun h2 => Sm [45] h h2)) := by
  refine AM.of (by decide) (Nat.le_of_ble_eq_true rfl) ?_
  show AW g mX2_needsBy 60 _ 0 [some (.ref 32), some (.int m), some (.int t), some (.int d)] [] h
  refine a_aload_n (pc := 0) (i := 0) dX2_needsBy_0 rfl rfl ?_
  refine a_getR (pc := 1) dX2_needsBy_1 fX2_46_2 rfl (hx.s 32 rfl) (by decide) (hx.n (by decide)) (hx.r 32 12 41 rfl) ?_
  refine a_iconst (pc := 4) (v := 0) dX2_needsBy_4 (by decide) ?_
  refine a_aaldN (pc := 5) (v := .ref (r)) dX2_needsBy_5 (hx.s 41 rfl) (by decide) (hx.n (by decide)) (by decide) (by decide) (k := 0) rfl (by decide) (by rw [q.2.1]; rfl) ?_
  refine a_ifnonnull (pc := 6) (tgt := 17) dX2_needsBy_6 (by decide) ?_
  refine a_aload_n (pc := 17) (i := 0) dX2_needsBy_17 rfl rfl ?_
  refine a_getR (pc := 18) dX2_needsBy_18 fX2_46_2 rfl (hx.s 32 rfl) (by decide) (hx.n (by decide)) (hx.r 32 12 41 rfl) ?_
  refine a_iconst (pc := 21) (v := 0) dX2_needsBy_21 (by decide) ?_
  refine a_aaldN (pc := 22) (v := .ref (r)) dX2_needsBy_22 (hx.s 41 rfl) (by decide) (hx.n (by decide)) (by decide) (by decide) (k := 0) rfl (by decide) (by rw [q.2.1]; rfl) ?_
  refine a_aload_n (pc := 23) (i := 0) dX2_needsBy_23 rfl rfl ?_
  refine a_getR (pc := 24) dX2_needsBy_24 fX2_63_2 rfl (hx.s 32 rfl) (by decide) (hx.n (by decide)) (hx.r 32 18 44 rfl) ?_
  refine a_bipush (pc := 27) (v := 109) dX2_needsBy_27 (by decide) ?_
  refine a_iload_n (pc := 29) (i := 1) dX2_needsBy_29 rfl rfl ?_
  refine a_cVr (pc := 30) (c_with (by exact hx) 109 (by decide) rfl _) sX2_97_3 dX2_needsBy_30 (recv_obj (t := 3) rfl (hx.s 44 rfl) (by decide) (hx.n (by decide))) rfl rfl (by decide) (Nat.le_of_ble_eq_true rfl) ?_
  refine a_bipush (pc := 33) (v := 116) dX2_needsBy_33 (by decide) ?_
  refine a_iload_n (pc := 35) (i := 2) dX2_needsBy_35 rfl rfl ?_
  refine a_cVr (pc := 36) (c_with (by exact hx) 116 (by decide) rfl _) sX2_97_3 dX2_needsBy_36 (recv_obj (t := 3) rfl (hx.s 44 rfl) (by decide) (hx.n (by decide))) rfl rfl (by decide) (Nat.le_of_ble_eq_true rfl) ?_
  refine a_bipush (pc := 39) (v := 100) dX2_needsBy_39 (by decide) ?_
  refine a_iload_n (pc := 41) (i := 3) dX2_needsBy_41 rfl rfl ?_
  refine a_cVr (pc := 42) (c_with (by exact hx) 100 (by decide) rfl _) sX2_97_3 dX2_needsBy_42 (recv_obj (t := 3) rfl (hx.s 44 rfl) (by decide) (hx.n (by decide))) rfl rfl (by decide) (Nat.le_of_ble_eq_true rfl) ?_
  refine d_val_X2 (L := 51) (pc := 45) (c_val (h := pI (pI (pI h 45 109 m) 45 116 t) 45 100 d) (by exact hx) 51 r v (TOK.xt ((((Xa.rf h).pI (by decide) _ _).pI (by decide) _ _).pI (by decide) _ _).t _ _ _ q.2.2.2)) rfl dX2_needsBy_45 (by decide) (Nat.le_of_ble_eq_true rfl) ?_
  refine a_istore (pc := 48) dX2_needsBy_48 (by decide) rfl ?_
  refine a_iload (pc := 50) dX2_needsBy_50 rfl ?_
  refine a_iconst (pc := 52) (v := 0) dX2_needsBy_52 (by decide) ?_
  refine a_bipush (pc := 53) (v := 99) dX2_needsBy_53 (by decide) ?_
  refine a_cSi (pc := 55) (c_held _ _ _) sX2_105 dX2_needsBy_55 rfl rfl (by decide) (Nat.le_of_ble_eq_true rfl) ?_
  exact a_iret (pc := 58) dX2_needsBy_58 rfl (eI_of (by rw [h_hld]; exact needed_eq q.1 q.2.2.1 (gI (pI (pI (pI h 45 109 m) 45 116 t) 45 100 d) 45) (by rfl) (by rfl) (by rfl)) (((((Sm.rf h).pI 45 _ _).pI 45 _ _).pI 45 _ _)))
theorem c_needsBy {g : Gl} {h : AH} (hx : Fx h) {D : De} (q : RDT h 32 D) (m t d : Int32) : AM g 60 mX2_needsBy [.ref 32, .int m, .int t, .int d] h (eI (needed D m t d) (fun h2 => Sm [45] h h2)) := by
  rcases q 0 (by decide) with q | ⟨r, v, q⟩
  · exact (c_needsBy0 hx q m t d).deep (by decide)
  · exact c_needsBy1 hx q m t d
theorem c_parchedBy0 {g : Gl} {h : AH} (hx : Fx h) {D : De} (q : D 11 1 = -1 ∧ gR h 41 1 = none) (m t d : Int32) : AM g 3 mX2_parchedBy [.ref 32, .int m, .int t, .int d] h (eI (parch D m t d) (fun h2 => Sm [45] h h2)) := by
  refine AM.of (by decide) (Nat.le_of_ble_eq_true rfl) ?_
  show AW g mX2_parchedBy 3 _ 0 [some (.ref 32), some (.int m), some (.int t), some (.int d)] [] h
  refine a_aload_n (pc := 0) (i := 0) dX2_parchedBy_0 rfl rfl ?_
  refine a_getR (pc := 1) dX2_parchedBy_1 fX2_46_2 rfl (hx.s 32 rfl) (by decide) (hx.n (by decide)) (hx.r 32 12 41 rfl) ?_
  refine a_iconst (pc := 4) (v := 1) dX2_parchedBy_4 (by decide) ?_
  refine a_aaldN (pc := 5) (v := .null) dX2_parchedBy_5 (hx.s 41 rfl) (by decide) (hx.n (by decide)) (by decide) (by decide) (k := 1) rfl (by decide) (by rw [q.2]; rfl) ?_
  refine a_ifnonnullN (pc := 6) dX2_parchedBy_6 ?_
  refine a_iload_n (pc := 9) (i := 1) dX2_parchedBy_9 rfl rfl ?_
  refine a_goto (pc := 10) (tgt := 44) dX2_parchedBy_10 (by decide) ?_
  refine a_istore (pc := 44) dX2_parchedBy_44 (by decide) rfl ?_
  refine a_iload (pc := 46) dX2_parchedBy_46 rfl ?_
  refine a_iconst (pc := 48) (v := 0) dX2_parchedBy_48 (by decide) ?_
  refine a_bipush (pc := 49) (v := 99) dX2_parchedBy_49 (by decide) ?_
  refine a_cSi (pc := 51) (c_held _ _ _) sX2_105 dX2_parchedBy_51 rfl rfl (by decide) (Nat.le_of_ble_eq_true rfl) ?_
  exact a_iret (pc := 54) dX2_parchedBy_54 rfl (eI_of (by rw [h_hld]; unfold parch; rw [q.1]; rfl) (Sm.rf h))
theorem c_parchedBy1 {g : Gl} {h : AH} (hx : Fx h) {D : De} {r : Nat} {v : Vf} (q : ¬ D 11 1 < 0 ∧ gR h 41 1 = some r ∧ pTxt (D 13) (tn (D 11 1)) 1 = (tn (D 11 1), some v) ∧ TOK h 51 r v) (m t d : Int32) : AM g 60 mX2_parchedBy [.ref 32, .int m, .int t, .int d] h (eI (parch D m t d) (fun h2 => Sm [45] h h2)) := by
  refine AM.of (by decide) (Nat.le_of_ble_eq_true rfl) ?_
  show AW g mX2_parchedBy 60 _ 0 [some (.ref 32), some (.int m), some (.int t), some (.int d)] [] h
  refine a_aload_n (pc := 0) (i := 0) dX2_parchedBy_0 rfl rfl ?_
  refine a_getR (pc := 1) dX2_parchedBy_1 fX2_46_2 rfl (hx.s 32 rfl) (by decide) (hx.n (by decide)) (hx.r 32 12 41 rfl) ?_
  refine a_iconst (pc := 4) (v := 1) dX2_parchedBy_4 (by decide) ?_
  refine a_aaldN (pc := 5) (v := .ref (r)) dX2_parchedBy_5 (hx.s 41 rfl) (by decide) (hx.n (by decide)) (by decide) (by decide) (k := 1) rfl (by decide) (by rw [q.2.1]; rfl) ?_
  refine a_ifnonnull (pc := 6) (tgt := 13) dX2_parchedBy_6 (by decide) ?_
  refine a_aload_n (pc := 13) (i := 0) dX2_parchedBy_13 rfl rfl ?_
  refine a_getR (pc := 14) dX2_parchedBy_14 fX2_46_2 rfl (hx.s 32 rfl) (by decide) (hx.n (by decide)) (hx.r 32 12 41 rfl) ?_
  refine a_iconst (pc := 17) (v := 1) dX2_parchedBy_17 (by decide) ?_
  refine a_aaldN (pc := 18) (v := .ref (r)) dX2_parchedBy_18 (hx.s 41 rfl) (by decide) (hx.n (by decide)) (by decide) (by decide) (k := 1) rfl (by decide) (by rw [q.2.1]; rfl) ?_
  refine a_aload_n (pc := 19) (i := 0) dX2_parchedBy_19 rfl rfl ?_
  refine a_getR (pc := 20) dX2_parchedBy_20 fX2_63_2 rfl (hx.s 32 rfl) (by decide) (hx.n (by decide)) (hx.r 32 18 44 rfl) ?_
  refine a_bipush (pc := 23) (v := 108) dX2_parchedBy_23 (by decide) ?_
  refine a_iload_n (pc := 25) (i := 1) dX2_parchedBy_25 rfl rfl ?_
  refine a_cVr (pc := 26) (c_with (by exact hx) 108 (by decide) rfl _) sX2_97_3 dX2_parchedBy_26 (recv_obj (t := 3) rfl (hx.s 44 rfl) (by decide) (hx.n (by decide))) rfl rfl (by decide) (Nat.le_of_ble_eq_true rfl) ?_
  refine a_bipush (pc := 29) (v := 109) dX2_parchedBy_29 (by decide) ?_
  refine a_iload_n (pc := 31) (i := 2) dX2_parchedBy_31 rfl rfl ?_
  refine a_cVr (pc := 32) (c_with (by exact hx) 109 (by decide) rfl _) sX2_97_3 dX2_parchedBy_32 (recv_obj (t := 3) rfl (hx.s 44 rfl) (by decide) (hx.n (by decide))) rfl rfl (by decide) (Nat.le_of_ble_eq_true rfl) ?_
  refine a_bipush (pc := 35) (v := 100) dX2_parchedBy_35 (by decide) ?_
  refine a_iload_n (pc := 37) (i := 3) dX2_parchedBy_37 rfl rfl ?_
  refine a_cVr (pc := 38) (c_with (by exact hx) 100 (by decide) rfl _) sX2_97_3 dX2_parchedBy_38 (recv_obj (t := 3) rfl (hx.s 44 rfl) (by decide) (hx.n (by decide))) rfl rfl (by decide) (Nat.le_of_ble_eq_true rfl) ?_
  refine d_val_X2 (L := 51) (pc := 41) (c_val (h := pI (pI (pI h 45 108 m) 45 109 t) 45 100 d) (by exact hx) 51 r v (TOK.xt ((((Xa.rf h).pI (by decide) _ _).pI (by decide) _ _).pI (by decide) _ _).t _ _ _ q.2.2.2)) rfl dX2_parchedBy_41 (by decide) (Nat.le_of_ble_eq_true rfl) ?_
  refine a_istore (pc := 44) dX2_parchedBy_44 (by decide) rfl ?_
  refine a_iload (pc := 46) dX2_parchedBy_46 rfl ?_
  refine a_iconst (pc := 48) (v := 0) dX2_parchedBy_48 (by decide) ?_
  refine a_bipush (pc := 49) (v := 99) dX2_parchedBy_49 (by decide) ?_
  refine a_cSi (pc := 51) (c_held _ _ _) sX2_105 dX2_parchedBy_51 rfl rfl (by decide) (Nat.le_of_ble_eq_true rfl) ?_
  exact a_iret (pc := 54) dX2_parchedBy_54 rfl (eI_of (by rw [h_hld]; exact parch_eq q.1 q.2.2.1 (gI (pI (pI (pI h 45 108 m) 45 109 t) 45 100 d) 45) (by rfl) (by rfl) (by rfl)) (((((Sm.rf h).pI 45 _ _).pI 45 _ _).pI 45 _ _)))
theorem c_parchedBy {g : Gl} {h : AH} (hx : Fx h) {D : De} (q : RDT h 32 D) (m t d : Int32) : AM g 60 mX2_parchedBy [.ref 32, .int m, .int t, .int d] h (eI (parch D m t d) (fun h2 => Sm [45] h h2)) := by
  rcases q 1 (by decide) with q | ⟨r, v, q⟩
  · exact (c_parchedBy0 hx q m t d).deep (by decide)
  · exact c_parchedBy1 hx q m t d
theorem v_kind_7_7 {g : Gl} {h : AH} (r : Nat) (hs : gS h r = (7, 0)) (hr : 30 ≤ r) (hn : r < gN h) : AM g 1 mX7_kind [.ref r] h (rI 0 h) := by
  refine AM.of (by decide) (Nat.le_of_ble_eq_true rfl) ?_
  show AW g mX7_kind 1 _ 0 [some (.ref r)] [] h
  refine a_iconst (pc := 0) (v := 0) dX7_kind_0 (by decide) ?_
  exact a_iret (pc := 1) dX7_kind_1 rfl (rI_of rfl rfl)
theorem v_isOf_7_7 {g : Gl} {h : AH} (r : Nat) (k : Int32) (hs : gS h r = (7, 0)) (hr : 30 ≤ r) (hn : r < gN h) : AM g 2 mX7_isOf [.ref r, .int k] h (rI (bI (k = 0)) h) := by
  refine AM.of (by decide) (Nat.le_of_ble_eq_true rfl) ?_
  show AW g mX7_isOf 2 _ 0 [some (.ref r), some (.int k)] [] h
  refine a_iload_n (pc := 0) (i := 1) dX7_isOf_0 rfl rfl ?_
  refine a_if_ne (pc := 1) (tgt := 8) dX7_isOf_1 (by decide) (fun c1 => ?_) (fun c1 => ?_)
  · skip
    refine a_iconst (pc := 8) (v := 0) dX7_isOf_8 (by decide) ?_
    exact a_zret (pc := 9) dX7_isOf_9 rfl rfl (rI_of (by grind [bI]) rfl)
  · skip
    refine a_iconst (pc := 4) (v := 1) dX7_isOf_4 (by decide) ?_
    refine a_goto (pc := 5) (tgt := 9) dX7_isOf_5 (by decide) ?_
    exact a_zret (pc := 9) dX7_isOf_9 rfl rfl (rI_of (by grind [bI]) rfl)
theorem v_limit_7_7 {g : Gl} {h : AH} (r : Nat) (hs : gS h r = (7, 0)) (hr : 30 ≤ r) (hn : r < gN h) : AM g 3 mX7_limit [.ref r] h (rI 12 h) := by
  refine AM.of (by decide) (Nat.le_of_ble_eq_true rfl) ?_
  show AW g mX7_limit 3 _ 0 [some (.ref r)] [] h
  refine a_bipush (pc := 0) (v := 12) dX7_limit_0 (by decide) ?_
  exact a_iret (pc := 2) dX7_limit_2 rfl (rI_of rfl rfl)
theorem v_needs_7_7 {g : Gl} {h : AH} (r : Nat) (t : Int32) (hs : gS h r = (7, 0)) (hr : 30 ≤ r) (hn : r < gN h) : AM g 1 mX7_needs [.ref r, .ref 32, .int t] h (eI 1 (fun h2 => Sm [45] h h2)) := by
  refine AM.of (by decide) (Nat.le_of_ble_eq_true rfl) ?_
  show AW g mX7_needs 1 _ 0 [some (.ref r), some (.ref 32), some (.int t)] [] h
  refine a_iconst (pc := 0) (v := 1) dX7_needs_0 (by decide) ?_
  exact a_iret (pc := 1) dX7_needs_1 rfl (eI_of rfl (Sm.rf h))
theorem v_called_7_7 {g : Gl} {h : AH} (r : Nat) (w o hr2 : Int32) (hs : gS h r = (7, 0)) (hr : 30 ≤ r) (hn : r < gN h) : AM g 2 mX7_called [.ref r, .int w, .int o, .int hr2] h (rI w h) := by
  refine AM.of (by decide) (Nat.le_of_ble_eq_true rfl) ?_
  show AW g mX7_called 2 _ 0 [some (.ref r), some (.int w), some (.int o), some (.int hr2)] [] h
  refine a_iload_n (pc := 0) (i := 1) dX7_called_0 rfl rfl ?_
  exact a_iret (pc := 1) dX7_called_1 rfl (rI_of (by grind) rfl)
theorem v_kind_8_8 {g : Gl} {h : AH} (r : Nat) (hs : gS h r = (8, 0)) (hr : 30 ≤ r) (hn : r < gN h) : AM g 1 mX8_kind [.ref r] h (rI 1 h) := by
  refine AM.of (by decide) (Nat.le_of_ble_eq_true rfl) ?_
  show AW g mX8_kind 1 _ 0 [some (.ref r)] [] h
  refine a_iconst (pc := 0) (v := 1) dX8_kind_0 (by decide) ?_
  exact a_iret (pc := 1) dX8_kind_1 rfl (rI_of rfl rfl)
theorem v_isOf_7_8 {g : Gl} {h : AH} (r : Nat) (k : Int32) (hs : gS h r = (8, 0)) (hr : 30 ≤ r) (hn : r < gN h) : AM g 2 mX7_isOf [.ref r, .int k] h (rI (bI (k = 0)) h) := by
  refine AM.of (by decide) (Nat.le_of_ble_eq_true rfl) ?_
  show AW g mX7_isOf 2 _ 0 [some (.ref r), some (.int k)] [] h
  refine a_iload_n (pc := 0) (i := 1) dX7_isOf_0 rfl rfl ?_
  refine a_if_ne (pc := 1) (tgt := 8) dX7_isOf_1 (by decide) (fun c1 => ?_) (fun c1 => ?_)
  · skip
    refine a_iconst (pc := 8) (v := 0) dX7_isOf_8 (by decide) ?_
    exact a_zret (pc := 9) dX7_isOf_9 rfl rfl (rI_of (by grind [bI]) rfl)
  · skip
    refine a_iconst (pc := 4) (v := 1) dX7_isOf_4 (by decide) ?_
    refine a_goto (pc := 5) (tgt := 9) dX7_isOf_5 (by decide) ?_
    exact a_zret (pc := 9) dX7_isOf_9 rfl rfl (rI_of (by grind [bI]) rfl)
theorem v_isOf_8_8 {g : Gl} {h : AH} (r : Nat) (k : Int32) (hs : gS h r = (8, 0)) (hr : 30 ≤ r) (hn : r < gN h) : AM g 3 mX8_isOf [.ref r, .int k] h (rI (bI (k = 1 ∨ k = 0)) h) := by
  refine AM.of (by decide) (Nat.le_of_ble_eq_true rfl) ?_
  show AW g mX8_isOf 3 _ 0 [some (.ref r), some (.int k)] [] h
  refine a_iload_n (pc := 0) (i := 1) dX8_isOf_0 rfl rfl ?_
  refine a_iconst (pc := 1) (v := 1) dX8_isOf_1 (by decide) ?_
  refine a_icmp_eq (pc := 2) (tgt := 13) dX8_isOf_2 (by decide) (fun c2 => ?_) (fun c2 => ?_)
  · skip
    refine a_iconst (pc := 13) (v := 1) dX8_isOf_13 (by decide) ?_
    refine a_goto (pc := 14) (tgt := 18) dX8_isOf_14 (by decide) ?_
    exact a_zret (pc := 18) dX8_isOf_18 rfl rfl (rI_of (by grind [bI]) rfl)
  · skip
    refine a_aload_n (pc := 5) (i := 0) dX8_isOf_5 rfl rfl ?_
    refine a_iload_n (pc := 6) (i := 1) dX8_isOf_6 rfl rfl ?_
    refine a_cPi (pc := 7) (v_isOf_7_8 r k hs hr hn) sX8_9p dX8_isOf_7 (recv_obj (t := 8) rfl hs hr hn) rfl rfl (by decide) (Nat.le_of_ble_eq_true rfl) ?_
    refine a_if_eq (pc := 10) (tgt := 17) dX8_isOf_10 (by decide) (fun c10 => ?_) (fun c10 => ?_)
    · skip
      refine a_iconst (pc := 17) (v := 0) dX8_isOf_17 (by decide) ?_
      exact a_zret (pc := 18) dX8_isOf_18 rfl rfl (rI_of (by grind [bI]) rfl)
    · skip
      refine a_iconst (pc := 13) (v := 1) dX8_isOf_13 (by decide) ?_
      refine a_goto (pc := 14) (tgt := 18) dX8_isOf_14 (by decide) ?_
      exact a_zret (pc := 18) dX8_isOf_18 rfl rfl (rI_of (by grind [bI]) rfl)
theorem v_limit_7_8 {g : Gl} {h : AH} (r : Nat) (hs : gS h r = (8, 0)) (hr : 30 ≤ r) (hn : r < gN h) : AM g 3 mX7_limit [.ref r] h (rI 12 h) := by
  refine AM.of (by decide) (Nat.le_of_ble_eq_true rfl) ?_
  show AW g mX7_limit 3 _ 0 [some (.ref r)] [] h
  refine a_bipush (pc := 0) (v := 12) dX7_limit_0 (by decide) ?_
  exact a_iret (pc := 2) dX7_limit_2 rfl (rI_of rfl rfl)
theorem v_limit_8_8 {g : Gl} {h : AH} (r : Nat) (hs : gS h r = (8, 0)) (hr : 30 ≤ r) (hn : r < gN h) : AM g 4 mX8_limit [.ref r] h (rI (12 + gI h r 2) h) := by
  refine AM.of (by decide) (Nat.le_of_ble_eq_true rfl) ?_
  show AW g mX8_limit 4 _ 0 [some (.ref r)] [] h
  refine a_aload_n (pc := 0) (i := 0) dX8_limit_0 rfl rfl ?_
  refine a_cPi (pc := 1) (v_limit_7_8 r hs hr hn) sX8_13p dX8_limit_1 (recv_obj (t := 8) rfl hs hr hn) rfl rfl (by decide) (Nat.le_of_ble_eq_true rfl) ?_
  refine a_aload_n (pc := 4) (i := 0) dX8_limit_4 rfl rfl ?_
  refine a_getI (pc := 5) dX8_limit_5 fX8_17_8 rfl hs hr hn ?_
  refine a_iadd (pc := 8) dX8_limit_8 ?_
  exact a_iret (pc := 9) dX8_limit_9 rfl (rI_of rfl rfl)
theorem v_needs_7_8 {g : Gl} {h : AH} (r : Nat) (t : Int32) (hs : gS h r = (8, 0)) (hr : 30 ≤ r) (hn : r < gN h) : AM g 1 mX7_needs [.ref r, .ref 32, .int t] h (eI 1 (fun h2 => Sm [45] h h2)) := by
  refine AM.of (by decide) (Nat.le_of_ble_eq_true rfl) ?_
  show AW g mX7_needs 1 _ 0 [some (.ref r), some (.ref 32), some (.int t)] [] h
  refine a_iconst (pc := 0) (v := 1) dX7_needs_0 (by decide) ?_
  exact a_iret (pc := 1) dX7_needs_1 rfl (eI_of rfl (Sm.rf h))
theorem v_called_7_8 {g : Gl} {h : AH} (r : Nat) (w o hr2 : Int32) (hs : gS h r = (8, 0)) (hr : 30 ≤ r) (hn : r < gN h) : AM g 2 mX7_called [.ref r, .int w, .int o, .int hr2] h (rI w h) := by
  refine AM.of (by decide) (Nat.le_of_ble_eq_true rfl) ?_
  show AW g mX7_called 2 _ 0 [some (.ref r), some (.int w), some (.int o), some (.int hr2)] [] h
  refine a_iload_n (pc := 0) (i := 1) dX7_called_0 rfl rfl ?_
  exact a_iret (pc := 1) dX7_called_1 rfl (rI_of (by grind) rfl)
theorem v_kind_9_9 {g : Gl} {h : AH} (r : Nat) (hs : gS h r = (9, 0)) (hr : 30 ≤ r) (hn : r < gN h) : AM g 1 mX9_kind [.ref r] h (rI 2 h) := by
  refine AM.of (by decide) (Nat.le_of_ble_eq_true rfl) ?_
  show AW g mX9_kind 1 _ 0 [some (.ref r)] [] h
  refine a_iconst (pc := 0) (v := 2) dX9_kind_0 (by decide) ?_
  exact a_iret (pc := 1) dX9_kind_1 rfl (rI_of rfl rfl)
theorem v_isOf_7_9 {g : Gl} {h : AH} (r : Nat) (k : Int32) (hs : gS h r = (9, 0)) (hr : 30 ≤ r) (hn : r < gN h) : AM g 2 mX7_isOf [.ref r, .int k] h (rI (bI (k = 0)) h) := by
  refine AM.of (by decide) (Nat.le_of_ble_eq_true rfl) ?_
  show AW g mX7_isOf 2 _ 0 [some (.ref r), some (.int k)] [] h
  refine a_iload_n (pc := 0) (i := 1) dX7_isOf_0 rfl rfl ?_
  refine a_if_ne (pc := 1) (tgt := 8) dX7_isOf_1 (by decide) (fun c1 => ?_) (fun c1 => ?_)
  · skip
    refine a_iconst (pc := 8) (v := 0) dX7_isOf_8 (by decide) ?_
    exact a_zret (pc := 9) dX7_isOf_9 rfl rfl (rI_of (by grind [bI]) rfl)
  · skip
    refine a_iconst (pc := 4) (v := 1) dX7_isOf_4 (by decide) ?_
    refine a_goto (pc := 5) (tgt := 9) dX7_isOf_5 (by decide) ?_
    exact a_zret (pc := 9) dX7_isOf_9 rfl rfl (rI_of (by grind [bI]) rfl)
theorem v_isOf_9_9 {g : Gl} {h : AH} (r : Nat) (k : Int32) (hs : gS h r = (9, 0)) (hr : 30 ≤ r) (hn : r < gN h) : AM g 3 mX9_isOf [.ref r, .int k] h (rI (bI (k = 2 ∨ k = 0)) h) := by
  refine AM.of (by decide) (Nat.le_of_ble_eq_true rfl) ?_
  show AW g mX9_isOf 3 _ 0 [some (.ref r), some (.int k)] [] h
  refine a_iload_n (pc := 0) (i := 1) dX9_isOf_0 rfl rfl ?_
  refine a_iconst (pc := 1) (v := 2) dX9_isOf_1 (by decide) ?_
  refine a_icmp_eq (pc := 2) (tgt := 13) dX9_isOf_2 (by decide) (fun c2 => ?_) (fun c2 => ?_)
  · skip
    refine a_iconst (pc := 13) (v := 1) dX9_isOf_13 (by decide) ?_
    refine a_goto (pc := 14) (tgt := 18) dX9_isOf_14 (by decide) ?_
    exact a_zret (pc := 18) dX9_isOf_18 rfl rfl (rI_of (by grind [bI]) rfl)
  · skip
    refine a_aload_n (pc := 5) (i := 0) dX9_isOf_5 rfl rfl ?_
    refine a_iload_n (pc := 6) (i := 1) dX9_isOf_6 rfl rfl ?_
    refine a_cPi (pc := 7) (v_isOf_7_9 r k hs hr hn) sX9_9p dX9_isOf_7 (recv_obj (t := 9) rfl hs hr hn) rfl rfl (by decide) (Nat.le_of_ble_eq_true rfl) ?_
    refine a_if_eq (pc := 10) (tgt := 17) dX9_isOf_10 (by decide) (fun c10 => ?_) (fun c10 => ?_)
    · skip
      refine a_iconst (pc := 17) (v := 0) dX9_isOf_17 (by decide) ?_
      exact a_zret (pc := 18) dX9_isOf_18 rfl rfl (rI_of (by grind [bI]) rfl)
    · skip
      refine a_iconst (pc := 13) (v := 1) dX9_isOf_13 (by decide) ?_
      refine a_goto (pc := 14) (tgt := 18) dX9_isOf_14 (by decide) ?_
      exact a_zret (pc := 18) dX9_isOf_18 rfl rfl (rI_of (by grind [bI]) rfl)
theorem v_limit_7_9 {g : Gl} {h : AH} (r : Nat) (hs : gS h r = (9, 0)) (hr : 30 ≤ r) (hn : r < gN h) : AM g 3 mX7_limit [.ref r] h (rI 12 h) := by
  refine AM.of (by decide) (Nat.le_of_ble_eq_true rfl) ?_
  show AW g mX7_limit 3 _ 0 [some (.ref r)] [] h
  refine a_bipush (pc := 0) (v := 12) dX7_limit_0 (by decide) ?_
  exact a_iret (pc := 2) dX7_limit_2 rfl (rI_of rfl rfl)
theorem v_limit_9_9 {g : Gl} {h : AH} (r : Nat) (hs : gS h r = (9, 0)) (hr : 30 ≤ r) (hn : r < gN h) : AM g 3 mX9_limit [.ref r] h (rI 8 h) := by
  refine AM.of (by decide) (Nat.le_of_ble_eq_true rfl) ?_
  show AW g mX9_limit 3 _ 0 [some (.ref r)] [] h
  refine a_bipush (pc := 0) (v := 8) dX9_limit_0 (by decide) ?_
  exact a_iret (pc := 2) dX9_limit_2 rfl (rI_of rfl rfl)
theorem v_needs_7_9 {g : Gl} {h : AH} (r : Nat) (t : Int32) (hs : gS h r = (9, 0)) (hr : 30 ≤ r) (hn : r < gN h) : AM g 1 mX7_needs [.ref r, .ref 32, .int t] h (eI 1 (fun h2 => Sm [45] h h2)) := by
  refine AM.of (by decide) (Nat.le_of_ble_eq_true rfl) ?_
  show AW g mX7_needs 1 _ 0 [some (.ref r), some (.ref 32), some (.int t)] [] h
  refine a_iconst (pc := 0) (v := 1) dX7_needs_0 (by decide) ?_
  exact a_iret (pc := 1) dX7_needs_1 rfl (eI_of rfl (Sm.rf h))
theorem v_called_7_9 {g : Gl} {h : AH} (r : Nat) (w o hr2 : Int32) (hs : gS h r = (9, 0)) (hr : 30 ≤ r) (hn : r < gN h) : AM g 2 mX7_called [.ref r, .int w, .int o, .int hr2] h (rI w h) := by
  refine AM.of (by decide) (Nat.le_of_ble_eq_true rfl) ?_
  show AW g mX7_called 2 _ 0 [some (.ref r), some (.int w), some (.int o), some (.int hr2)] [] h
  refine a_iload_n (pc := 0) (i := 1) dX7_called_0 rfl rfl ?_
  exact a_iret (pc := 1) dX7_called_1 rfl (rI_of (by grind) rfl)
theorem v_kind_10_10 {g : Gl} {h : AH} (r : Nat) (hs : gS h r = (10, 0)) (hr : 30 ≤ r) (hn : r < gN h) : AM g 1 mX10_kind [.ref r] h (rI 3 h) := by
  refine AM.of (by decide) (Nat.le_of_ble_eq_true rfl) ?_
  show AW g mX10_kind 1 _ 0 [some (.ref r)] [] h
  refine a_iconst (pc := 0) (v := 3) dX10_kind_0 (by decide) ?_
  exact a_iret (pc := 1) dX10_kind_1 rfl (rI_of rfl rfl)
theorem v_isOf_7_10 {g : Gl} {h : AH} (r : Nat) (k : Int32) (hs : gS h r = (10, 0)) (hr : 30 ≤ r) (hn : r < gN h) : AM g 2 mX7_isOf [.ref r, .int k] h (rI (bI (k = 0)) h) := by
  refine AM.of (by decide) (Nat.le_of_ble_eq_true rfl) ?_
  show AW g mX7_isOf 2 _ 0 [some (.ref r), some (.int k)] [] h
  refine a_iload_n (pc := 0) (i := 1) dX7_isOf_0 rfl rfl ?_
  refine a_if_ne (pc := 1) (tgt := 8) dX7_isOf_1 (by decide) (fun c1 => ?_) (fun c1 => ?_)
  · skip
    refine a_iconst (pc := 8) (v := 0) dX7_isOf_8 (by decide) ?_
    exact a_zret (pc := 9) dX7_isOf_9 rfl rfl (rI_of (by grind [bI]) rfl)
  · skip
    refine a_iconst (pc := 4) (v := 1) dX7_isOf_4 (by decide) ?_
    refine a_goto (pc := 5) (tgt := 9) dX7_isOf_5 (by decide) ?_
    exact a_zret (pc := 9) dX7_isOf_9 rfl rfl (rI_of (by grind [bI]) rfl)
theorem v_isOf_10_10 {g : Gl} {h : AH} (r : Nat) (k : Int32) (hs : gS h r = (10, 0)) (hr : 30 ≤ r) (hn : r < gN h) : AM g 3 mX10_isOf [.ref r, .int k] h (rI (bI (k = 3 ∨ k = 0)) h) := by
  refine AM.of (by decide) (Nat.le_of_ble_eq_true rfl) ?_
  show AW g mX10_isOf 3 _ 0 [some (.ref r), some (.int k)] [] h
  refine a_iload_n (pc := 0) (i := 1) dX10_isOf_0 rfl rfl ?_
  refine a_iconst (pc := 1) (v := 3) dX10_isOf_1 (by decide) ?_
  refine a_icmp_eq (pc := 2) (tgt := 13) dX10_isOf_2 (by decide) (fun c2 => ?_) (fun c2 => ?_)
  · skip
    refine a_iconst (pc := 13) (v := 1) dX10_isOf_13 (by decide) ?_
    refine a_goto (pc := 14) (tgt := 18) dX10_isOf_14 (by decide) ?_
    exact a_zret (pc := 18) dX10_isOf_18 rfl rfl (rI_of (by grind [bI]) rfl)
  · skip
    refine a_aload_n (pc := 5) (i := 0) dX10_isOf_5 rfl rfl ?_
    refine a_iload_n (pc := 6) (i := 1) dX10_isOf_6 rfl rfl ?_
    refine a_cPi (pc := 7) (v_isOf_7_10 r k hs hr hn) sX10_9p dX10_isOf_7 (recv_obj (t := 10) rfl hs hr hn) rfl rfl (by decide) (Nat.le_of_ble_eq_true rfl) ?_
    refine a_if_eq (pc := 10) (tgt := 17) dX10_isOf_10 (by decide) (fun c10 => ?_) (fun c10 => ?_)
    · skip
      refine a_iconst (pc := 17) (v := 0) dX10_isOf_17 (by decide) ?_
      exact a_zret (pc := 18) dX10_isOf_18 rfl rfl (rI_of (by grind [bI]) rfl)
    · skip
      refine a_iconst (pc := 13) (v := 1) dX10_isOf_13 (by decide) ?_
      refine a_goto (pc := 14) (tgt := 18) dX10_isOf_14 (by decide) ?_
      exact a_zret (pc := 18) dX10_isOf_18 rfl rfl (rI_of (by grind [bI]) rfl)
theorem v_limit_7_10 {g : Gl} {h : AH} (r : Nat) (hs : gS h r = (10, 0)) (hr : 30 ≤ r) (hn : r < gN h) : AM g 3 mX7_limit [.ref r] h (rI 12 h) := by
  refine AM.of (by decide) (Nat.le_of_ble_eq_true rfl) ?_
  show AW g mX7_limit 3 _ 0 [some (.ref r)] [] h
  refine a_bipush (pc := 0) (v := 12) dX7_limit_0 (by decide) ?_
  exact a_iret (pc := 2) dX7_limit_2 rfl (rI_of rfl rfl)
theorem v_limit_10_10 {g : Gl} {h : AH} (r : Nat) (hs : gS h r = (10, 0)) (hr : 30 ≤ r) (hn : r < gN h) : AM g 4 mX10_limit [.ref r] h (rI 36 h) := by
  refine AM.of (by decide) (Nat.le_of_ble_eq_true rfl) ?_
  show AW g mX10_limit 4 _ 0 [some (.ref r)] [] h
  refine a_iconst (pc := 0) (v := 3) dX10_limit_0 (by decide) ?_
  refine a_aload_n (pc := 1) (i := 0) dX10_limit_1 rfl rfl ?_
  refine a_cPi (pc := 2) (v_limit_7_10 r hs hr hn) sX10_13p dX10_limit_2 (recv_obj (t := 10) rfl hs hr hn) rfl rfl (by decide) (Nat.le_of_ble_eq_true rfl) ?_
  refine a_imul (pc := 5) dX10_limit_5 ?_
  exact a_iret (pc := 6) dX10_limit_6 rfl (rI_of rfl rfl)
theorem v_needs_7_10 {g : Gl} {h : AH} (r : Nat) (t : Int32) (hs : gS h r = (10, 0)) (hr : 30 ≤ r) (hn : r < gN h) : AM g 1 mX7_needs [.ref r, .ref 32, .int t] h (eI 1 (fun h2 => Sm [45] h h2)) := by
  refine AM.of (by decide) (Nat.le_of_ble_eq_true rfl) ?_
  show AW g mX7_needs 1 _ 0 [some (.ref r), some (.ref 32), some (.int t)] [] h
  refine a_iconst (pc := 0) (v := 1) dX7_needs_0 (by decide) ?_
  exact a_iret (pc := 1) dX7_needs_1 rfl (eI_of rfl (Sm.rf h))
theorem v_needs_10_10 {g : Gl} {h : AH} (hx : Fx h) {D : De} (rd : RD h 32 D) (r : Nat) (t : Int32) (hs : gS h r = (10, 0)) (hr : 30 ≤ r) (hn : r < gN h) : AM g 61 mX10_needs [.ref r, .ref 32, .int t] h (eI (needed D (gI h r 2) t (D 3 2)) (fun h2 => Sm [45] h h2)) := by
  refine AM.of (by decide) (Nat.le_of_ble_eq_true rfl) ?_
  show AW g mX10_needs 61 _ 0 [some (.ref r), some (.ref 32), some (.int t)] [] h
  refine a_aload_n (pc := 0) (i := 1) dX10_needs_0 rfl rfl ?_
  refine a_aload_n (pc := 1) (i := 0) dX10_needs_1 rfl rfl ?_
  refine a_getI (pc := 2) dX10_needs_2 fX10_17_10 rfl hs hr hn ?_
  refine a_iload_n (pc := 5) (i := 2) dX10_needs_5 rfl rfl ?_
  refine a_aload_n (pc := 6) (i := 1) dX10_needs_6 rfl rfl ?_
  refine a_getI (pc := 7) dX10_needs_7 fX10_23_2 rfl (hx.s 32 rfl) (by decide) (hx.n (by decide)) ?_
  refine a_cVe (pc := 10) (c_needsBy hx rd.2.2.2.2.2.2.2.2.2.2.2 _ _ _) sX10_28_2 dX10_needs_10 (recv_obj (t := 2) rfl (hx.s 32 rfl) (by decide) (hx.n (by decide))) rfl rfl (by decide) (Nat.le_of_ble_eq_true rfl) (fun h1 e1 => ?_)
  exact a_iret (pc := 13) dX10_needs_13 rfl (eI_of (by rw [← rd.2.2.2.1.2.2.1]) e1)
theorem v_called_7_10 {g : Gl} {h : AH} (r : Nat) (w o hr2 : Int32) (hs : gS h r = (10, 0)) (hr : 30 ≤ r) (hn : r < gN h) : AM g 2 mX7_called [.ref r, .int w, .int o, .int hr2] h (rI w h) := by
  refine AM.of (by decide) (Nat.le_of_ble_eq_true rfl) ?_
  show AW g mX7_called 2 _ 0 [some (.ref r), some (.int w), some (.int o), some (.int hr2)] [] h
  refine a_iload_n (pc := 0) (i := 1) dX7_called_0 rfl rfl ?_
  exact a_iret (pc := 1) dX7_called_1 rfl (rI_of (by grind) rfl)
theorem v_called_10_10 {g : Gl} {h : AH} (r : Nat) (w o hr2 : Int32) (hs : gS h r = (10, 0)) (hr : 30 ≤ r) (hn : r < gN h) : AM g 3 mX10_called [.ref r, .int w, .int o, .int hr2] h (rI (if hr2 - hr2 / 2 * 2 = 0 then w else o) h) := by
  refine AM.of (by decide) (Nat.le_of_ble_eq_true rfl) ?_
  show AW g mX10_called 3 _ 0 [some (.ref r), some (.int w), some (.int o), some (.int hr2)] [] h
  refine a_iload_n (pc := 0) (i := 3) dX10_called_0 rfl rfl ?_
  refine a_iconst (pc := 1) (v := 2) dX10_called_1 (by decide) ?_
  refine a_irem (pc := 2) dX10_called_2 (by decide) ?_
  refine a_if_ne (pc := 3) (tgt := 16) dX10_called_3 (by decide) (fun c3 => ?_) (fun c3 => ?_)
  · skip
    refine a_iload_n (pc := 16) (i := 2) dX10_called_16 rfl rfl ?_
    exact a_iret (pc := 17) dX10_called_17 rfl (rI_of (by grind) rfl)
  · skip
    refine a_aload_n (pc := 6) (i := 0) dX10_called_6 rfl rfl ?_
    refine a_iload_n (pc := 7) (i := 1) dX10_called_7 rfl rfl ?_
    refine a_iload_n (pc := 8) (i := 2) dX10_called_8 rfl rfl ?_
    refine a_iload_n (pc := 9) (i := 3) dX10_called_9 rfl rfl ?_
    refine a_cPi (pc := 10) (v_called_7_10 r w o hr2 hs hr hn) sX10_32p dX10_called_10 (recv_obj (t := 10) rfl hs hr hn) rfl rfl (by decide) (Nat.le_of_ble_eq_true rfl) ?_
    refine a_goto (pc := 13) (tgt := 17) dX10_called_13 (by decide) ?_
    exact a_iret (pc := 17) dX10_called_17 rfl (rI_of (by grind) rfl)
theorem v_kind_11_11 {g : Gl} {h : AH} (r : Nat) (hs : gS h r = (11, 0)) (hr : 30 ≤ r) (hn : r < gN h) : AM g 1 mX11_kind [.ref r] h (rI 4 h) := by
  refine AM.of (by decide) (Nat.le_of_ble_eq_true rfl) ?_
  show AW g mX11_kind 1 _ 0 [some (.ref r)] [] h
  refine a_iconst (pc := 0) (v := 4) dX11_kind_0 (by decide) ?_
  exact a_iret (pc := 1) dX11_kind_1 rfl (rI_of rfl rfl)
theorem v_isOf_7_11 {g : Gl} {h : AH} (r : Nat) (k : Int32) (hs : gS h r = (11, 0)) (hr : 30 ≤ r) (hn : r < gN h) : AM g 2 mX7_isOf [.ref r, .int k] h (rI (bI (k = 0)) h) := by
  refine AM.of (by decide) (Nat.le_of_ble_eq_true rfl) ?_
  show AW g mX7_isOf 2 _ 0 [some (.ref r), some (.int k)] [] h
  refine a_iload_n (pc := 0) (i := 1) dX7_isOf_0 rfl rfl ?_
  refine a_if_ne (pc := 1) (tgt := 8) dX7_isOf_1 (by decide) (fun c1 => ?_) (fun c1 => ?_)
  · skip
    refine a_iconst (pc := 8) (v := 0) dX7_isOf_8 (by decide) ?_
    exact a_zret (pc := 9) dX7_isOf_9 rfl rfl (rI_of (by grind [bI]) rfl)
  · skip
    refine a_iconst (pc := 4) (v := 1) dX7_isOf_4 (by decide) ?_
    refine a_goto (pc := 5) (tgt := 9) dX7_isOf_5 (by decide) ?_
    exact a_zret (pc := 9) dX7_isOf_9 rfl rfl (rI_of (by grind [bI]) rfl)
theorem v_isOf_8_11 {g : Gl} {h : AH} (r : Nat) (k : Int32) (hs : gS h r = (11, 0)) (hr : 30 ≤ r) (hn : r < gN h) : AM g 3 mX8_isOf [.ref r, .int k] h (rI (bI (k = 1 ∨ k = 0)) h) := by
  refine AM.of (by decide) (Nat.le_of_ble_eq_true rfl) ?_
  show AW g mX8_isOf 3 _ 0 [some (.ref r), some (.int k)] [] h
  refine a_iload_n (pc := 0) (i := 1) dX8_isOf_0 rfl rfl ?_
  refine a_iconst (pc := 1) (v := 1) dX8_isOf_1 (by decide) ?_
  refine a_icmp_eq (pc := 2) (tgt := 13) dX8_isOf_2 (by decide) (fun c2 => ?_) (fun c2 => ?_)
  · skip
    refine a_iconst (pc := 13) (v := 1) dX8_isOf_13 (by decide) ?_
    refine a_goto (pc := 14) (tgt := 18) dX8_isOf_14 (by decide) ?_
    exact a_zret (pc := 18) dX8_isOf_18 rfl rfl (rI_of (by grind [bI]) rfl)
  · skip
    refine a_aload_n (pc := 5) (i := 0) dX8_isOf_5 rfl rfl ?_
    refine a_iload_n (pc := 6) (i := 1) dX8_isOf_6 rfl rfl ?_
    refine a_cPi (pc := 7) (v_isOf_7_11 r k hs hr hn) sX8_9p dX8_isOf_7 (recv_obj (t := 11) rfl hs hr hn) rfl rfl (by decide) (Nat.le_of_ble_eq_true rfl) ?_
    refine a_if_eq (pc := 10) (tgt := 17) dX8_isOf_10 (by decide) (fun c10 => ?_) (fun c10 => ?_)
    · skip
      refine a_iconst (pc := 17) (v := 0) dX8_isOf_17 (by decide) ?_
      exact a_zret (pc := 18) dX8_isOf_18 rfl rfl (rI_of (by grind [bI]) rfl)
    · skip
      refine a_iconst (pc := 13) (v := 1) dX8_isOf_13 (by decide) ?_
      refine a_goto (pc := 14) (tgt := 18) dX8_isOf_14 (by decide) ?_
      exact a_zret (pc := 18) dX8_isOf_18 rfl rfl (rI_of (by grind [bI]) rfl)
theorem v_isOf_11_11 {g : Gl} {h : AH} (r : Nat) (k : Int32) (hs : gS h r = (11, 0)) (hr : 30 ≤ r) (hn : r < gN h) : AM g 4 mX11_isOf [.ref r, .int k] h (rI (bI (k = 4 ∨ k = 1 ∨ k = 0)) h) := by
  refine AM.of (by decide) (Nat.le_of_ble_eq_true rfl) ?_
  show AW g mX11_isOf 4 _ 0 [some (.ref r), some (.int k)] [] h
  refine a_iload_n (pc := 0) (i := 1) dX11_isOf_0 rfl rfl ?_
  refine a_iconst (pc := 1) (v := 4) dX11_isOf_1 (by decide) ?_
  refine a_icmp_eq (pc := 2) (tgt := 13) dX11_isOf_2 (by decide) (fun c2 => ?_) (fun c2 => ?_)
  · skip
    refine a_iconst (pc := 13) (v := 1) dX11_isOf_13 (by decide) ?_
    refine a_goto (pc := 14) (tgt := 18) dX11_isOf_14 (by decide) ?_
    exact a_zret (pc := 18) dX11_isOf_18 rfl rfl (rI_of (by grind [bI]) rfl)
  · skip
    refine a_aload_n (pc := 5) (i := 0) dX11_isOf_5 rfl rfl ?_
    refine a_iload_n (pc := 6) (i := 1) dX11_isOf_6 rfl rfl ?_
    refine a_cPi (pc := 7) (v_isOf_8_11 r k hs hr hn) sX11_9p dX11_isOf_7 (recv_obj (t := 11) rfl hs hr hn) rfl rfl (by decide) (Nat.le_of_ble_eq_true rfl) ?_
    refine a_if_eq (pc := 10) (tgt := 17) dX11_isOf_10 (by decide) (fun c10 => ?_) (fun c10 => ?_)
    · skip
      refine a_iconst (pc := 17) (v := 0) dX11_isOf_17 (by decide) ?_
      exact a_zret (pc := 18) dX11_isOf_18 rfl rfl (rI_of (by grind [bI]) rfl)
    · skip
      refine a_iconst (pc := 13) (v := 1) dX11_isOf_13 (by decide) ?_
      refine a_goto (pc := 14) (tgt := 18) dX11_isOf_14 (by decide) ?_
      exact a_zret (pc := 18) dX11_isOf_18 rfl rfl (rI_of (by grind [bI]) rfl)
theorem v_limit_7_11 {g : Gl} {h : AH} (r : Nat) (hs : gS h r = (11, 0)) (hr : 30 ≤ r) (hn : r < gN h) : AM g 3 mX7_limit [.ref r] h (rI 12 h) := by
  refine AM.of (by decide) (Nat.le_of_ble_eq_true rfl) ?_
  show AW g mX7_limit 3 _ 0 [some (.ref r)] [] h
  refine a_bipush (pc := 0) (v := 12) dX7_limit_0 (by decide) ?_
  exact a_iret (pc := 2) dX7_limit_2 rfl (rI_of rfl rfl)
theorem v_limit_8_11 {g : Gl} {h : AH} (r : Nat) (hs : gS h r = (11, 0)) (hr : 30 ≤ r) (hn : r < gN h) : AM g 4 mX8_limit [.ref r] h (rI (12 + gI h r 2) h) := by
  refine AM.of (by decide) (Nat.le_of_ble_eq_true rfl) ?_
  show AW g mX8_limit 4 _ 0 [some (.ref r)] [] h
  refine a_aload_n (pc := 0) (i := 0) dX8_limit_0 rfl rfl ?_
  refine a_cPi (pc := 1) (v_limit_7_11 r hs hr hn) sX8_13p dX8_limit_1 (recv_obj (t := 11) rfl hs hr hn) rfl rfl (by decide) (Nat.le_of_ble_eq_true rfl) ?_
  refine a_aload_n (pc := 4) (i := 0) dX8_limit_4 rfl rfl ?_
  refine a_getI (pc := 5) dX8_limit_5 fX8_17_11 rfl hs hr hn ?_
  refine a_iadd (pc := 8) dX8_limit_8 ?_
  exact a_iret (pc := 9) dX8_limit_9 rfl (rI_of rfl rfl)
theorem v_needs_7_11 {g : Gl} {h : AH} (r : Nat) (t : Int32) (hs : gS h r = (11, 0)) (hr : 30 ≤ r) (hn : r < gN h) : AM g 1 mX7_needs [.ref r, .ref 32, .int t] h (eI 1 (fun h2 => Sm [45] h h2)) := by
  refine AM.of (by decide) (Nat.le_of_ble_eq_true rfl) ?_
  show AW g mX7_needs 1 _ 0 [some (.ref r), some (.ref 32), some (.int t)] [] h
  refine a_iconst (pc := 0) (v := 1) dX7_needs_0 (by decide) ?_
  exact a_iret (pc := 1) dX7_needs_1 rfl (eI_of rfl (Sm.rf h))
theorem v_called_7_11 {g : Gl} {h : AH} (r : Nat) (w o hr2 : Int32) (hs : gS h r = (11, 0)) (hr : 30 ≤ r) (hn : r < gN h) : AM g 2 mX7_called [.ref r, .int w, .int o, .int hr2] h (rI w h) := by
  refine AM.of (by decide) (Nat.le_of_ble_eq_true rfl) ?_
  show AW g mX7_called 2 _ 0 [some (.ref r), some (.int w), some (.int o), some (.int hr2)] [] h
  refine a_iload_n (pc := 0) (i := 1) dX7_called_0 rfl rfl ?_
  exact a_iret (pc := 1) dX7_called_1 rfl (rI_of (by grind) rfl)
theorem v_called_11_11 {g : Gl} {h : AH} (r : Nat) (w o hr2 : Int32) (hs : gS h r = (11, 0)) (hr : 30 ≤ r) (hn : r < gN h) : AM g 4 mX11_called [.ref r, .int w, .int o, .int hr2] h (rI (if o = -1 then w else o) h) := by
  refine AM.of (by decide) (Nat.le_of_ble_eq_true rfl) ?_
  show AW g mX11_called 4 _ 0 [some (.ref r), some (.int w), some (.int o), some (.int hr2)] [] h
  refine a_iload_n (pc := 0) (i := 2) dX11_called_0 rfl rfl ?_
  refine a_iconst (pc := 1) (v := (-1)) dX11_called_1 (by decide) ?_
  refine a_icmp_ne (pc := 2) (tgt := 15) dX11_called_2 (by decide) (fun c2 => ?_) (fun c2 => ?_)
  · skip
    refine a_iload_n (pc := 15) (i := 2) dX11_called_15 rfl rfl ?_
    exact a_iret (pc := 16) dX11_called_16 rfl (rI_of (by grind) rfl)
  · skip
    refine a_aload_n (pc := 5) (i := 0) dX11_called_5 rfl rfl ?_
    refine a_iload_n (pc := 6) (i := 1) dX11_called_6 rfl rfl ?_
    refine a_iload_n (pc := 7) (i := 2) dX11_called_7 rfl rfl ?_
    refine a_iload_n (pc := 8) (i := 3) dX11_called_8 rfl rfl ?_
    refine a_cPi (pc := 9) (v_called_7_11 r w o hr2 hs hr hn) sX11_13p dX11_called_9 (recv_obj (t := 11) rfl hs hr hn) rfl rfl (by decide) (Nat.le_of_ble_eq_true rfl) ?_
    refine a_goto (pc := 12) (tgt := 16) dX11_called_12 (by decide) ?_
    exact a_iret (pc := 16) dX11_called_16 rfl (rI_of (by grind) rfl)
theorem v_kind_12_12 {g : Gl} {h : AH} (r : Nat) (hs : gS h r = (12, 0)) (hr : 30 ≤ r) (hn : r < gN h) : AM g 1 mX12_kind [.ref r] h (rI 5 h) := by
  refine AM.of (by decide) (Nat.le_of_ble_eq_true rfl) ?_
  show AW g mX12_kind 1 _ 0 [some (.ref r)] [] h
  refine a_iconst (pc := 0) (v := 5) dX12_kind_0 (by decide) ?_
  exact a_iret (pc := 1) dX12_kind_1 rfl (rI_of rfl rfl)
theorem v_isOf_7_12 {g : Gl} {h : AH} (r : Nat) (k : Int32) (hs : gS h r = (12, 0)) (hr : 30 ≤ r) (hn : r < gN h) : AM g 2 mX7_isOf [.ref r, .int k] h (rI (bI (k = 0)) h) := by
  refine AM.of (by decide) (Nat.le_of_ble_eq_true rfl) ?_
  show AW g mX7_isOf 2 _ 0 [some (.ref r), some (.int k)] [] h
  refine a_iload_n (pc := 0) (i := 1) dX7_isOf_0 rfl rfl ?_
  refine a_if_ne (pc := 1) (tgt := 8) dX7_isOf_1 (by decide) (fun c1 => ?_) (fun c1 => ?_)
  · skip
    refine a_iconst (pc := 8) (v := 0) dX7_isOf_8 (by decide) ?_
    exact a_zret (pc := 9) dX7_isOf_9 rfl rfl (rI_of (by grind [bI]) rfl)
  · skip
    refine a_iconst (pc := 4) (v := 1) dX7_isOf_4 (by decide) ?_
    refine a_goto (pc := 5) (tgt := 9) dX7_isOf_5 (by decide) ?_
    exact a_zret (pc := 9) dX7_isOf_9 rfl rfl (rI_of (by grind [bI]) rfl)
theorem v_isOf_9_12 {g : Gl} {h : AH} (r : Nat) (k : Int32) (hs : gS h r = (12, 0)) (hr : 30 ≤ r) (hn : r < gN h) : AM g 3 mX9_isOf [.ref r, .int k] h (rI (bI (k = 2 ∨ k = 0)) h) := by
  refine AM.of (by decide) (Nat.le_of_ble_eq_true rfl) ?_
  show AW g mX9_isOf 3 _ 0 [some (.ref r), some (.int k)] [] h
  refine a_iload_n (pc := 0) (i := 1) dX9_isOf_0 rfl rfl ?_
  refine a_iconst (pc := 1) (v := 2) dX9_isOf_1 (by decide) ?_
  refine a_icmp_eq (pc := 2) (tgt := 13) dX9_isOf_2 (by decide) (fun c2 => ?_) (fun c2 => ?_)
  · skip
    refine a_iconst (pc := 13) (v := 1) dX9_isOf_13 (by decide) ?_
    refine a_goto (pc := 14) (tgt := 18) dX9_isOf_14 (by decide) ?_
    exact a_zret (pc := 18) dX9_isOf_18 rfl rfl (rI_of (by grind [bI]) rfl)
  · skip
    refine a_aload_n (pc := 5) (i := 0) dX9_isOf_5 rfl rfl ?_
    refine a_iload_n (pc := 6) (i := 1) dX9_isOf_6 rfl rfl ?_
    refine a_cPi (pc := 7) (v_isOf_7_12 r k hs hr hn) sX9_9p dX9_isOf_7 (recv_obj (t := 12) rfl hs hr hn) rfl rfl (by decide) (Nat.le_of_ble_eq_true rfl) ?_
    refine a_if_eq (pc := 10) (tgt := 17) dX9_isOf_10 (by decide) (fun c10 => ?_) (fun c10 => ?_)
    · skip
      refine a_iconst (pc := 17) (v := 0) dX9_isOf_17 (by decide) ?_
      exact a_zret (pc := 18) dX9_isOf_18 rfl rfl (rI_of (by grind [bI]) rfl)
    · skip
      refine a_iconst (pc := 13) (v := 1) dX9_isOf_13 (by decide) ?_
      refine a_goto (pc := 14) (tgt := 18) dX9_isOf_14 (by decide) ?_
      exact a_zret (pc := 18) dX9_isOf_18 rfl rfl (rI_of (by grind [bI]) rfl)
theorem v_isOf_12_12 {g : Gl} {h : AH} (r : Nat) (k : Int32) (hs : gS h r = (12, 0)) (hr : 30 ≤ r) (hn : r < gN h) : AM g 4 mX12_isOf [.ref r, .int k] h (rI (bI (k = 5 ∨ k = 2 ∨ k = 0)) h) := by
  refine AM.of (by decide) (Nat.le_of_ble_eq_true rfl) ?_
  show AW g mX12_isOf 4 _ 0 [some (.ref r), some (.int k)] [] h
  refine a_iload_n (pc := 0) (i := 1) dX12_isOf_0 rfl rfl ?_
  refine a_iconst (pc := 1) (v := 5) dX12_isOf_1 (by decide) ?_
  refine a_icmp_eq (pc := 2) (tgt := 13) dX12_isOf_2 (by decide) (fun c2 => ?_) (fun c2 => ?_)
  · skip
    refine a_iconst (pc := 13) (v := 1) dX12_isOf_13 (by decide) ?_
    refine a_goto (pc := 14) (tgt := 18) dX12_isOf_14 (by decide) ?_
    exact a_zret (pc := 18) dX12_isOf_18 rfl rfl (rI_of (by grind [bI]) rfl)
  · skip
    refine a_aload_n (pc := 5) (i := 0) dX12_isOf_5 rfl rfl ?_
    refine a_iload_n (pc := 6) (i := 1) dX12_isOf_6 rfl rfl ?_
    refine a_cPi (pc := 7) (v_isOf_9_12 r k hs hr hn) sX12_9p dX12_isOf_7 (recv_obj (t := 12) rfl hs hr hn) rfl rfl (by decide) (Nat.le_of_ble_eq_true rfl) ?_
    refine a_if_eq (pc := 10) (tgt := 17) dX12_isOf_10 (by decide) (fun c10 => ?_) (fun c10 => ?_)
    · skip
      refine a_iconst (pc := 17) (v := 0) dX12_isOf_17 (by decide) ?_
      exact a_zret (pc := 18) dX12_isOf_18 rfl rfl (rI_of (by grind [bI]) rfl)
    · skip
      refine a_iconst (pc := 13) (v := 1) dX12_isOf_13 (by decide) ?_
      refine a_goto (pc := 14) (tgt := 18) dX12_isOf_14 (by decide) ?_
      exact a_zret (pc := 18) dX12_isOf_18 rfl rfl (rI_of (by grind [bI]) rfl)
theorem v_limit_7_12 {g : Gl} {h : AH} (r : Nat) (hs : gS h r = (12, 0)) (hr : 30 ≤ r) (hn : r < gN h) : AM g 3 mX7_limit [.ref r] h (rI 12 h) := by
  refine AM.of (by decide) (Nat.le_of_ble_eq_true rfl) ?_
  show AW g mX7_limit 3 _ 0 [some (.ref r)] [] h
  refine a_bipush (pc := 0) (v := 12) dX7_limit_0 (by decide) ?_
  exact a_iret (pc := 2) dX7_limit_2 rfl (rI_of rfl rfl)
theorem v_limit_9_12 {g : Gl} {h : AH} (r : Nat) (hs : gS h r = (12, 0)) (hr : 30 ≤ r) (hn : r < gN h) : AM g 3 mX9_limit [.ref r] h (rI 8 h) := by
  refine AM.of (by decide) (Nat.le_of_ble_eq_true rfl) ?_
  show AW g mX9_limit 3 _ 0 [some (.ref r)] [] h
  refine a_bipush (pc := 0) (v := 8) dX9_limit_0 (by decide) ?_
  exact a_iret (pc := 2) dX9_limit_2 rfl (rI_of rfl rfl)
theorem v_limit_12_12 {g : Gl} {h : AH} (r : Nat) (hs : gS h r = (12, 0)) (hr : 30 ≤ r) (hn : r < gN h) : AM g 4 mX12_limit [.ref r] h (rI (8 + gI h r 2 / 2) h) := by
  refine AM.of (by decide) (Nat.le_of_ble_eq_true rfl) ?_
  show AW g mX12_limit 4 _ 0 [some (.ref r)] [] h
  refine a_aload_n (pc := 0) (i := 0) dX12_limit_0 rfl rfl ?_
  refine a_cPi (pc := 1) (v_limit_9_12 r hs hr hn) sX12_13p dX12_limit_1 (recv_obj (t := 12) rfl hs hr hn) rfl rfl (by decide) (Nat.le_of_ble_eq_true rfl) ?_
  refine a_aload_n (pc := 4) (i := 0) dX12_limit_4 rfl rfl ?_
  refine a_getI (pc := 5) dX12_limit_5 fX12_17_12 rfl hs hr hn ?_
  refine a_iconst (pc := 8) (v := 2) dX12_limit_8 (by decide) ?_
  refine a_idiv (pc := 9) dX12_limit_9 (by decide) ?_
  refine a_iadd (pc := 10) dX12_limit_10 ?_
  exact a_iret (pc := 11) dX12_limit_11 rfl (rI_of rfl rfl)
theorem v_needs_7_12 {g : Gl} {h : AH} (r : Nat) (t : Int32) (hs : gS h r = (12, 0)) (hr : 30 ≤ r) (hn : r < gN h) : AM g 1 mX7_needs [.ref r, .ref 32, .int t] h (eI 1 (fun h2 => Sm [45] h h2)) := by
  refine AM.of (by decide) (Nat.le_of_ble_eq_true rfl) ?_
  show AW g mX7_needs 1 _ 0 [some (.ref r), some (.ref 32), some (.int t)] [] h
  refine a_iconst (pc := 0) (v := 1) dX7_needs_0 (by decide) ?_
  exact a_iret (pc := 1) dX7_needs_1 rfl (eI_of rfl (Sm.rf h))
theorem v_called_7_12 {g : Gl} {h : AH} (r : Nat) (w o hr2 : Int32) (hs : gS h r = (12, 0)) (hr : 30 ≤ r) (hn : r < gN h) : AM g 2 mX7_called [.ref r, .int w, .int o, .int hr2] h (rI w h) := by
  refine AM.of (by decide) (Nat.le_of_ble_eq_true rfl) ?_
  show AW g mX7_called 2 _ 0 [some (.ref r), some (.int w), some (.int o), some (.int hr2)] [] h
  refine a_iload_n (pc := 0) (i := 1) dX7_called_0 rfl rfl ?_
  exact a_iret (pc := 1) dX7_called_1 rfl (rI_of (by grind) rfl)
theorem v_called_12_12 {g : Gl} {h : AH} (r : Nat) (w o hr2 : Int32) (hs : gS h r = (12, 0)) (hr : 30 ≤ r) (hn : r < gN h) : AM g 4 mX12_called [.ref r, .int w, .int o, .int hr2] h (rI (if w = o then -1 else w) h) := by
  refine AM.of (by decide) (Nat.le_of_ble_eq_true rfl) ?_
  show AW g mX12_called 4 _ 0 [some (.ref r), some (.int w), some (.int o), some (.int hr2)] [] h
  refine a_aload_n (pc := 0) (i := 0) dX12_called_0 rfl rfl ?_
  refine a_iload_n (pc := 1) (i := 1) dX12_called_1 rfl rfl ?_
  refine a_iload_n (pc := 2) (i := 2) dX12_called_2 rfl rfl ?_
  refine a_iload_n (pc := 3) (i := 3) dX12_called_3 rfl rfl ?_
  refine a_cPi (pc := 4) (v_called_7_12 r w o hr2 hs hr hn) sX12_23p dX12_called_4 (recv_obj (t := 12) rfl hs hr hn) rfl rfl (by decide) (Nat.le_of_ble_eq_true rfl) ?_
  refine a_istore (pc := 7) dX12_called_7 (by decide) rfl ?_
  refine a_iload (pc := 9) dX12_called_9 rfl ?_
  refine a_iload_n (pc := 11) (i := 2) dX12_called_11 rfl rfl ?_
  refine a_icmp_ne (pc := 12) (tgt := 19) dX12_called_12 (by decide) (fun c12 => ?_) (fun c12 => ?_)
  · skip
    refine a_iload (pc := 19) dX12_called_19 rfl ?_
    exact a_iret (pc := 21) dX12_called_21 rfl (rI_of (by grind) rfl)
  · skip
    refine a_iconst (pc := 15) (v := (-1)) dX12_called_15 (by decide) ?_
    refine a_goto (pc := 16) (tgt := 21) dX12_called_16 (by decide) ?_
    exact a_iret (pc := 21) dX12_called_21 rfl (rI_of (by grind) rfl)
theorem v_kind_13_13 {g : Gl} {h : AH} (r : Nat) (hs : gS h r = (13, 0)) (hr : 30 ≤ r) (hn : r < gN h) : AM g 1 mX13_kind [.ref r] h (rI 6 h) := by
  refine AM.of (by decide) (Nat.le_of_ble_eq_true rfl) ?_
  show AW g mX13_kind 1 _ 0 [some (.ref r)] [] h
  refine a_bipush (pc := 0) (v := 6) dX13_kind_0 (by decide) ?_
  exact a_iret (pc := 2) dX13_kind_2 rfl (rI_of rfl rfl)
theorem v_isOf_7_13 {g : Gl} {h : AH} (r : Nat) (k : Int32) (hs : gS h r = (13, 0)) (hr : 30 ≤ r) (hn : r < gN h) : AM g 2 mX7_isOf [.ref r, .int k] h (rI (bI (k = 0)) h) := by
  refine AM.of (by decide) (Nat.le_of_ble_eq_true rfl) ?_
  show AW g mX7_isOf 2 _ 0 [some (.ref r), some (.int k)] [] h
  refine a_iload_n (pc := 0) (i := 1) dX7_isOf_0 rfl rfl ?_
  refine a_if_ne (pc := 1) (tgt := 8) dX7_isOf_1 (by decide) (fun c1 => ?_) (fun c1 => ?_)
  · skip
    refine a_iconst (pc := 8) (v := 0) dX7_isOf_8 (by decide) ?_
    exact a_zret (pc := 9) dX7_isOf_9 rfl rfl (rI_of (by grind [bI]) rfl)
  · skip
    refine a_iconst (pc := 4) (v := 1) dX7_isOf_4 (by decide) ?_
    refine a_goto (pc := 5) (tgt := 9) dX7_isOf_5 (by decide) ?_
    exact a_zret (pc := 9) dX7_isOf_9 rfl rfl (rI_of (by grind [bI]) rfl)
theorem v_isOf_10_13 {g : Gl} {h : AH} (r : Nat) (k : Int32) (hs : gS h r = (13, 0)) (hr : 30 ≤ r) (hn : r < gN h) : AM g 3 mX10_isOf [.ref r, .int k] h (rI (bI (k = 3 ∨ k = 0)) h) := by
  refine AM.of (by decide) (Nat.le_of_ble_eq_true rfl) ?_
  show AW g mX10_isOf 3 _ 0 [some (.ref r), some (.int k)] [] h
  refine a_iload_n (pc := 0) (i := 1) dX10_isOf_0 rfl rfl ?_
  refine a_iconst (pc := 1) (v := 3) dX10_isOf_1 (by decide) ?_
  refine a_icmp_eq (pc := 2) (tgt := 13) dX10_isOf_2 (by decide) (fun c2 => ?_) (fun c2 => ?_)
  · skip
    refine a_iconst (pc := 13) (v := 1) dX10_isOf_13 (by decide) ?_
    refine a_goto (pc := 14) (tgt := 18) dX10_isOf_14 (by decide) ?_
    exact a_zret (pc := 18) dX10_isOf_18 rfl rfl (rI_of (by grind [bI]) rfl)
  · skip
    refine a_aload_n (pc := 5) (i := 0) dX10_isOf_5 rfl rfl ?_
    refine a_iload_n (pc := 6) (i := 1) dX10_isOf_6 rfl rfl ?_
    refine a_cPi (pc := 7) (v_isOf_7_13 r k hs hr hn) sX10_9p dX10_isOf_7 (recv_obj (t := 13) rfl hs hr hn) rfl rfl (by decide) (Nat.le_of_ble_eq_true rfl) ?_
    refine a_if_eq (pc := 10) (tgt := 17) dX10_isOf_10 (by decide) (fun c10 => ?_) (fun c10 => ?_)
    · skip
      refine a_iconst (pc := 17) (v := 0) dX10_isOf_17 (by decide) ?_
      exact a_zret (pc := 18) dX10_isOf_18 rfl rfl (rI_of (by grind [bI]) rfl)
    · skip
      refine a_iconst (pc := 13) (v := 1) dX10_isOf_13 (by decide) ?_
      refine a_goto (pc := 14) (tgt := 18) dX10_isOf_14 (by decide) ?_
      exact a_zret (pc := 18) dX10_isOf_18 rfl rfl (rI_of (by grind [bI]) rfl)
theorem v_isOf_13_13 {g : Gl} {h : AH} (r : Nat) (k : Int32) (hs : gS h r = (13, 0)) (hr : 30 ≤ r) (hn : r < gN h) : AM g 4 mX13_isOf [.ref r, .int k] h (rI (bI (k = 6 ∨ k = 3 ∨ k = 0)) h) := by
  refine AM.of (by decide) (Nat.le_of_ble_eq_true rfl) ?_
  show AW g mX13_isOf 4 _ 0 [some (.ref r), some (.int k)] [] h
  refine a_iload_n (pc := 0) (i := 1) dX13_isOf_0 rfl rfl ?_
  refine a_bipush (pc := 1) (v := 6) dX13_isOf_1 (by decide) ?_
  refine a_icmp_eq (pc := 3) (tgt := 14) dX13_isOf_3 (by decide) (fun c3 => ?_) (fun c3 => ?_)
  · skip
    refine a_iconst (pc := 14) (v := 1) dX13_isOf_14 (by decide) ?_
    refine a_goto (pc := 15) (tgt := 19) dX13_isOf_15 (by decide) ?_
    exact a_zret (pc := 19) dX13_isOf_19 rfl rfl (rI_of (by grind [bI]) rfl)
  · skip
    refine a_aload_n (pc := 6) (i := 0) dX13_isOf_6 rfl rfl ?_
    refine a_iload_n (pc := 7) (i := 1) dX13_isOf_7 rfl rfl ?_
    refine a_cPi (pc := 8) (v_isOf_10_13 r k hs hr hn) sX13_9p dX13_isOf_8 (recv_obj (t := 13) rfl hs hr hn) rfl rfl (by decide) (Nat.le_of_ble_eq_true rfl) ?_
    refine a_if_eq (pc := 11) (tgt := 18) dX13_isOf_11 (by decide) (fun c11 => ?_) (fun c11 => ?_)
    · skip
      refine a_iconst (pc := 18) (v := 0) dX13_isOf_18 (by decide) ?_
      exact a_zret (pc := 19) dX13_isOf_19 rfl rfl (rI_of (by grind [bI]) rfl)
    · skip
      refine a_iconst (pc := 14) (v := 1) dX13_isOf_14 (by decide) ?_
      refine a_goto (pc := 15) (tgt := 19) dX13_isOf_15 (by decide) ?_
      exact a_zret (pc := 19) dX13_isOf_19 rfl rfl (rI_of (by grind [bI]) rfl)
theorem v_limit_7_13 {g : Gl} {h : AH} (r : Nat) (hs : gS h r = (13, 0)) (hr : 30 ≤ r) (hn : r < gN h) : AM g 3 mX7_limit [.ref r] h (rI 12 h) := by
  refine AM.of (by decide) (Nat.le_of_ble_eq_true rfl) ?_
  show AW g mX7_limit 3 _ 0 [some (.ref r)] [] h
  refine a_bipush (pc := 0) (v := 12) dX7_limit_0 (by decide) ?_
  exact a_iret (pc := 2) dX7_limit_2 rfl (rI_of rfl rfl)
theorem v_limit_10_13 {g : Gl} {h : AH} (r : Nat) (hs : gS h r = (13, 0)) (hr : 30 ≤ r) (hn : r < gN h) : AM g 4 mX10_limit [.ref r] h (rI 36 h) := by
  refine AM.of (by decide) (Nat.le_of_ble_eq_true rfl) ?_
  show AW g mX10_limit 4 _ 0 [some (.ref r)] [] h
  refine a_iconst (pc := 0) (v := 3) dX10_limit_0 (by decide) ?_
  refine a_aload_n (pc := 1) (i := 0) dX10_limit_1 rfl rfl ?_
  refine a_cPi (pc := 2) (v_limit_7_13 r hs hr hn) sX10_13p dX10_limit_2 (recv_obj (t := 13) rfl hs hr hn) rfl rfl (by decide) (Nat.le_of_ble_eq_true rfl) ?_
  refine a_imul (pc := 5) dX10_limit_5 ?_
  exact a_iret (pc := 6) dX10_limit_6 rfl (rI_of rfl rfl)
theorem v_needs_7_13 {g : Gl} {h : AH} (r : Nat) (t : Int32) (hs : gS h r = (13, 0)) (hr : 30 ≤ r) (hn : r < gN h) : AM g 1 mX7_needs [.ref r, .ref 32, .int t] h (eI 1 (fun h2 => Sm [45] h h2)) := by
  refine AM.of (by decide) (Nat.le_of_ble_eq_true rfl) ?_
  show AW g mX7_needs 1 _ 0 [some (.ref r), some (.ref 32), some (.int t)] [] h
  refine a_iconst (pc := 0) (v := 1) dX7_needs_0 (by decide) ?_
  exact a_iret (pc := 1) dX7_needs_1 rfl (eI_of rfl (Sm.rf h))
theorem v_needs_10_13 {g : Gl} {h : AH} (hx : Fx h) {D : De} (rd : RD h 32 D) (r : Nat) (t : Int32) (hs : gS h r = (13, 0)) (hr : 30 ≤ r) (hn : r < gN h) : AM g 61 mX10_needs [.ref r, .ref 32, .int t] h (eI (needed D (gI h r 2) t (D 3 2)) (fun h2 => Sm [45] h h2)) := by
  refine AM.of (by decide) (Nat.le_of_ble_eq_true rfl) ?_
  show AW g mX10_needs 61 _ 0 [some (.ref r), some (.ref 32), some (.int t)] [] h
  refine a_aload_n (pc := 0) (i := 1) dX10_needs_0 rfl rfl ?_
  refine a_aload_n (pc := 1) (i := 0) dX10_needs_1 rfl rfl ?_
  refine a_getI (pc := 2) dX10_needs_2 fX10_17_13 rfl hs hr hn ?_
  refine a_iload_n (pc := 5) (i := 2) dX10_needs_5 rfl rfl ?_
  refine a_aload_n (pc := 6) (i := 1) dX10_needs_6 rfl rfl ?_
  refine a_getI (pc := 7) dX10_needs_7 fX10_23_2 rfl (hx.s 32 rfl) (by decide) (hx.n (by decide)) ?_
  refine a_cVe (pc := 10) (c_needsBy hx rd.2.2.2.2.2.2.2.2.2.2.2 _ _ _) sX10_28_2 dX10_needs_10 (recv_obj (t := 2) rfl (hx.s 32 rfl) (by decide) (hx.n (by decide))) rfl rfl (by decide) (Nat.le_of_ble_eq_true rfl) (fun h1 e1 => ?_)
  exact a_iret (pc := 13) dX10_needs_13 rfl (eI_of (by rw [← rd.2.2.2.1.2.2.1]) e1)
theorem v_needs_13_13 {g : Gl} {h : AH} (hx : Fx h) {D : De} (rd : RD h 32 D) (r : Nat) (t : Int32) (hs : gS h r = (13, 0)) (hr : 30 ≤ r) (hn : r < gN h) : AM g 62 mX13_needs [.ref r, .ref 32, .int t] h (eI (needed D (gI h r 2) t (D 3 2) + gI h r 2) (fun h2 => Sm [45] h h2)) := by
  refine AM.of (by decide) (Nat.le_of_ble_eq_true rfl) ?_
  show AW g mX13_needs 62 _ 0 [some (.ref r), some (.ref 32), some (.int t)] [] h
  refine a_aload_n (pc := 0) (i := 0) dX13_needs_0 rfl rfl ?_
  refine a_aload_n (pc := 1) (i := 1) dX13_needs_1 rfl rfl ?_
  refine a_iload_n (pc := 2) (i := 2) dX13_needs_2 rfl rfl ?_
  refine a_cPe (pc := 3) (v_needs_10_13 hx rd r t hs hr hn) sX13_13p dX13_needs_3 (recv_obj (t := 13) rfl hs hr hn) rfl rfl (by decide) (Nat.le_of_ble_eq_true rfl) (fun h1 e1 => ?_)
  have hs0 := hs
  rw [← e1.gS] at hs
  rw [← e1.gN] at hn
  have hr2 : r ∉ [45] := by
    intro z
    have : r = 45 := by simpa using z
    subst this
    exact absurd (hs0.symm.trans (hx.s 45 rfl)) (by decide)
  refine a_aload_n (pc := 6) (i := 0) dX13_needs_6 rfl rfl ?_
  refine a_getI (pc := 7) dX13_needs_7 fX13_17_13 rfl hs hr hn ?_
  refine a_iadd (pc := 10) dX13_needs_10 ?_
  exact a_iret (pc := 11) dX13_needs_11 rfl (eI_of (by rw [e1.2 r hr2]) e1)
theorem v_called_7_13 {g : Gl} {h : AH} (r : Nat) (w o hr2 : Int32) (hs : gS h r = (13, 0)) (hr : 30 ≤ r) (hn : r < gN h) : AM g 2 mX7_called [.ref r, .int w, .int o, .int hr2] h (rI w h) := by
  refine AM.of (by decide) (Nat.le_of_ble_eq_true rfl) ?_
  show AW g mX7_called 2 _ 0 [some (.ref r), some (.int w), some (.int o), some (.int hr2)] [] h
  refine a_iload_n (pc := 0) (i := 1) dX7_called_0 rfl rfl ?_
  exact a_iret (pc := 1) dX7_called_1 rfl (rI_of (by grind) rfl)
theorem v_called_10_13 {g : Gl} {h : AH} (r : Nat) (w o hr2 : Int32) (hs : gS h r = (13, 0)) (hr : 30 ≤ r) (hn : r < gN h) : AM g 3 mX10_called [.ref r, .int w, .int o, .int hr2] h (rI (if hr2 - hr2 / 2 * 2 = 0 then w else o) h) := by
  refine AM.of (by decide) (Nat.le_of_ble_eq_true rfl) ?_
  show AW g mX10_called 3 _ 0 [some (.ref r), some (.int w), some (.int o), some (.int hr2)] [] h
  refine a_iload_n (pc := 0) (i := 3) dX10_called_0 rfl rfl ?_
  refine a_iconst (pc := 1) (v := 2) dX10_called_1 (by decide) ?_
  refine a_irem (pc := 2) dX10_called_2 (by decide) ?_
  refine a_if_ne (pc := 3) (tgt := 16) dX10_called_3 (by decide) (fun c3 => ?_) (fun c3 => ?_)
  · skip
    refine a_iload_n (pc := 16) (i := 2) dX10_called_16 rfl rfl ?_
    exact a_iret (pc := 17) dX10_called_17 rfl (rI_of (by grind) rfl)
  · skip
    refine a_aload_n (pc := 6) (i := 0) dX10_called_6 rfl rfl ?_
    refine a_iload_n (pc := 7) (i := 1) dX10_called_7 rfl rfl ?_
    refine a_iload_n (pc := 8) (i := 2) dX10_called_8 rfl rfl ?_
    refine a_iload_n (pc := 9) (i := 3) dX10_called_9 rfl rfl ?_
    refine a_cPi (pc := 10) (v_called_7_13 r w o hr2 hs hr hn) sX10_32p dX10_called_10 (recv_obj (t := 13) rfl hs hr hn) rfl rfl (by decide) (Nat.le_of_ble_eq_true rfl) ?_
    refine a_goto (pc := 13) (tgt := 17) dX10_called_13 (by decide) ?_
    exact a_iret (pc := 17) dX10_called_17 rfl (rI_of (by grind) rfl)
theorem isf_7 (k : Int32) : (k = 0) ↔ (k = 0 ∨ nI 0 = k ∨ (3 < nI 0 ∧ nI 0 - 3 = k)) := by
  rw [show nI 0 = 0 from rfl]
  grind
theorem cal_7 (w o hr2 : Int32) : w = calledOf (nI 0) w o hr2 := by
  unfold calledOf
  rw [show nI 0 = 0 from rfl]
  grind
theorem isf_8 (k : Int32) : (k = 1 ∨ k = 0) ↔ (k = 0 ∨ nI 1 = k ∨ (3 < nI 1 ∧ nI 1 - 3 = k)) := by
  rw [show nI 1 = 1 from rfl]
  grind
theorem cal_8 (w o hr2 : Int32) : w = calledOf (nI 1) w o hr2 := by
  unfold calledOf
  rw [show nI 1 = 1 from rfl]
  grind
theorem isf_9 (k : Int32) : (k = 2 ∨ k = 0) ↔ (k = 0 ∨ nI 2 = k ∨ (3 < nI 2 ∧ nI 2 - 3 = k)) := by
  rw [show nI 2 = 2 from rfl]
  grind
theorem cal_9 (w o hr2 : Int32) : w = calledOf (nI 2) w o hr2 := by
  unfold calledOf
  rw [show nI 2 = 2 from rfl]
  grind
theorem isf_10 (k : Int32) : (k = 3 ∨ k = 0) ↔ (k = 0 ∨ nI 3 = k ∨ (3 < nI 3 ∧ nI 3 - 3 = k)) := by
  rw [show nI 3 = 3 from rfl]
  grind
theorem cal_10 (w o hr2 : Int32) : (if hr2 - hr2 / 2 * 2 = 0 then w else o) = calledOf (nI 3) w o hr2 := by
  unfold calledOf
  rw [show nI 3 = 3 from rfl]
  grind
theorem isf_11 (k : Int32) : (k = 4 ∨ k = 1 ∨ k = 0) ↔ (k = 0 ∨ nI 4 = k ∨ (3 < nI 4 ∧ nI 4 - 3 = k)) := by
  rw [show nI 4 = 4 from rfl]
  grind
theorem cal_11 (w o hr2 : Int32) (ho : o = -1 ∨ upto 7 o) : (if o = -1 then w else o) = calledOf (nI 4) w o hr2 := by
  have e : (o = -1) ↔ o < 0 := by
    rcases ho with rfl | ⟨j, hj, rfl⟩
    · decide
    · have := nI_pos (n := j) (by omega)
      constructor
      · intro e; rw [e] at this; exact absurd (by decide) this
      · intro e; exact absurd e this
  unfold calledOf
  rw [show nI 4 = 4 from rfl]
  simp only [e]
  rfl
theorem isf_12 (k : Int32) : (k = 5 ∨ k = 2 ∨ k = 0) ↔ (k = 0 ∨ nI 5 = k ∨ (3 < nI 5 ∧ nI 5 - 3 = k)) := by
  rw [show nI 5 = 5 from rfl]
  grind
theorem cal_12 (w o hr2 : Int32) : (if w = o then -1 else w) = calledOf (nI 5) w o hr2 := by
  unfold calledOf
  rw [show nI 5 = 5 from rfl]
  grind
theorem isf_13 (k : Int32) : (k = 6 ∨ k = 3 ∨ k = 0) ↔ (k = 0 ∨ nI 6 = k ∨ (3 < nI 6 ∧ nI 6 - 3 = k)) := by
  rw [show nI 6 = 6 from rfl]
  grind
theorem cal_13 (w o hr2 : Int32) : (if hr2 - hr2 / 2 * 2 = 0 then w else o) = calledOf (nI 6) w o hr2 := by
  unfold calledOf
  rw [show nI 6 = 6 from rfl]
  grind
theorem d_kind_X0 {g : Gl} {M : MI} {d : Nat} {Q : Outcome → AH → Prop} {pc r p : Nat} {ls : List (Option Value)} {st : List Value} {h : AH} {κ m : Int32}  (pr : PR h r p κ m) (hc : M.1.cls = RX0) (hd : decode M.2.1 pc = .ok (.invokevirtual 165, 3)) (hL : 70 ≤ d) (hw : (st.map fun v => v.category).sum ≤ 40) (kk : AW g M d Q (pc + 3) ls (.int (κ) :: st) h) : AW g M d Q pc ls (.ref r :: st) h := by
  obtain ⟨t0, ht, rfl, hr0, hn, hs, -, -, i2⟩ := pr
  have hr : 30 ≤ r := by omega
  have ht : t0 = 0 ∨ t0 = 1 ∨ t0 = 2 ∨ t0 = 3 ∨ t0 = 4 ∨ t0 = 5 ∨ t0 = 6 := by omega
  subst i2
  rcases ht with rfl | rfl | rfl | rfl | rfl | rfl | rfl
  · exact a_cVi (v_kind_7_7 r hs hr hn) (by rw [hc]; exact sX0_165_7) hd (recv_obj (t := 7) rfl hs hr hn) rfl rfl (by omega) hw kk
  · exact a_cUi (v_kind_8_8 r hs hr hn) (by rw [hc]; exact sX0_165_8) hd (recv_obj (t := 8) rfl hs hr hn) rfl rfl (by omega) hw kk
  · exact a_cUi (v_kind_9_9 r hs hr hn) (by rw [hc]; exact sX0_165_9) hd (recv_obj (t := 9) rfl hs hr hn) rfl rfl (by omega) hw kk
  · exact a_cUi (v_kind_10_10 r hs hr hn) (by rw [hc]; exact sX0_165_10) hd (recv_obj (t := 10) rfl hs hr hn) rfl rfl (by omega) hw kk
  · exact a_cUi (v_kind_11_11 r hs hr hn) (by rw [hc]; exact sX0_165_11) hd (recv_obj (t := 11) rfl hs hr hn) rfl rfl (by omega) hw kk
  · exact a_cUi (v_kind_12_12 r hs hr hn) (by rw [hc]; exact sX0_165_12) hd (recv_obj (t := 12) rfl hs hr hn) rfl rfl (by omega) hw kk
  · exact a_cUi (v_kind_13_13 r hs hr hn) (by rw [hc]; exact sX0_165_13) hd (recv_obj (t := 13) rfl hs hr hn) rfl rfl (by omega) hw kk
theorem d_isOf_X0 {g : Gl} {M : MI} {d : Nat} {Q : Outcome → AH → Prop} {pc r p : Nat} {ls : List (Option Value)} {st : List Value} {h : AH} {κ m : Int32} (k : Int32) (pr : PR h r p κ m) (hc : M.1.cls = RX0) (hd : decode M.2.1 pc = .ok (.invokevirtual 178, 3)) (hL : 70 ≤ d) (hw : (st.map fun v => v.category).sum ≤ 40) (kk : AW g M d Q (pc + 3) ls (.int (bI (k = 0 ∨ κ = k ∨ (3 < κ ∧ κ - 3 = k))) :: st) h) : AW g M d Q pc ls (.int k :: .ref r :: st) h := by
  obtain ⟨t0, ht, rfl, hr0, hn, hs, -, -, i2⟩ := pr
  have hr : 30 ≤ r := by omega
  have ht : t0 = 0 ∨ t0 = 1 ∨ t0 = 2 ∨ t0 = 3 ∨ t0 = 4 ∨ t0 = 5 ∨ t0 = 6 := by omega
  subst i2
  rcases ht with rfl | rfl | rfl | rfl | rfl | rfl | rfl
  · exact a_cVi (v_isOf_7_7 r k hs hr hn) (by rw [hc]; exact sX0_178_7) hd (recv_obj (t := 7) rfl hs hr hn) rfl rfl (by omega) hw (by rw [show (bI (k = 0)) = bI (k = 0 ∨ nI 0 = k ∨ (3 < nI 0 ∧ nI 0 - 3 = k)) from bI_c (isf_7 k)]; exact kk)
  · exact a_cUi (v_isOf_8_8 r k hs hr hn) (by rw [hc]; exact sX0_178_8) hd (recv_obj (t := 8) rfl hs hr hn) rfl rfl (by omega) hw (by rw [show (bI (k = 1 ∨ k = 0)) = bI (k = 0 ∨ nI 1 = k ∨ (3 < nI 1 ∧ nI 1 - 3 = k)) from bI_c (isf_8 k)]; exact kk)
  · exact a_cUi (v_isOf_9_9 r k hs hr hn) (by rw [hc]; exact sX0_178_9) hd (recv_obj (t := 9) rfl hs hr hn) rfl rfl (by omega) hw (by rw [show (bI (k = 2 ∨ k = 0)) = bI (k = 0 ∨ nI 2 = k ∨ (3 < nI 2 ∧ nI 2 - 3 = k)) from bI_c (isf_9 k)]; exact kk)
  · exact a_cUi (v_isOf_10_10 r k hs hr hn) (by rw [hc]; exact sX0_178_10) hd (recv_obj (t := 10) rfl hs hr hn) rfl rfl (by omega) hw (by rw [show (bI (k = 3 ∨ k = 0)) = bI (k = 0 ∨ nI 3 = k ∨ (3 < nI 3 ∧ nI 3 - 3 = k)) from bI_c (isf_10 k)]; exact kk)
  · exact a_cUi (v_isOf_11_11 r k hs hr hn) (by rw [hc]; exact sX0_178_11) hd (recv_obj (t := 11) rfl hs hr hn) rfl rfl (by omega) hw (by rw [show (bI (k = 4 ∨ k = 1 ∨ k = 0)) = bI (k = 0 ∨ nI 4 = k ∨ (3 < nI 4 ∧ nI 4 - 3 = k)) from bI_c (isf_11 k)]; exact kk)
  · exact a_cUi (v_isOf_12_12 r k hs hr hn) (by rw [hc]; exact sX0_178_12) hd (recv_obj (t := 12) rfl hs hr hn) rfl rfl (by omega) hw (by rw [show (bI (k = 5 ∨ k = 2 ∨ k = 0)) = bI (k = 0 ∨ nI 5 = k ∨ (3 < nI 5 ∧ nI 5 - 3 = k)) from bI_c (isf_12 k)]; exact kk)
  · exact a_cUi (v_isOf_13_13 r k hs hr hn) (by rw [hc]; exact sX0_178_13) hd (recv_obj (t := 13) rfl hs hr hn) rfl rfl (by omega) hw (by rw [show (bI (k = 6 ∨ k = 3 ∨ k = 0)) = bI (k = 0 ∨ nI 6 = k ∨ (3 < nI 6 ∧ nI 6 - 3 = k)) from bI_c (isf_13 k)]; exact kk)
theorem d_limit_X0 {g : Gl} {M : MI} {d : Nat} {Q : Outcome → AH → Prop} {pc r p : Nat} {ls : List (Option Value)} {st : List Value} {h : AH} {κ m : Int32}  (pr : PR h r p κ m) (hc : M.1.cls = RX0) (hd : decode M.2.1 pc = .ok (.invokevirtual 172, 3)) (hL : 70 ≤ d) (hw : (st.map fun v => v.category).sum ≤ 40) (kk : AW g M d Q (pc + 3) ls (.int (limOf κ m) :: st) h) : AW g M d Q pc ls (.ref r :: st) h := by
  obtain ⟨t0, ht, rfl, hr0, hn, hs, -, -, i2⟩ := pr
  have hr : 30 ≤ r := by omega
  have ht : t0 = 0 ∨ t0 = 1 ∨ t0 = 2 ∨ t0 = 3 ∨ t0 = 4 ∨ t0 = 5 ∨ t0 = 6 := by omega
  subst i2
  rcases ht with rfl | rfl | rfl | rfl | rfl | rfl | rfl
  · exact a_cVi (v_limit_7_7 r hs hr hn) (by rw [hc]; exact sX0_172_7) hd (recv_obj (t := 7) rfl hs hr hn) rfl rfl (by omega) hw kk
  · exact a_cUi (v_limit_8_8 r hs hr hn) (by rw [hc]; exact sX0_172_8) hd (recv_obj (t := 8) rfl hs hr hn) rfl rfl (by omega) hw kk
  · exact a_cUi (v_limit_9_9 r hs hr hn) (by rw [hc]; exact sX0_172_9) hd (recv_obj (t := 9) rfl hs hr hn) rfl rfl (by omega) hw kk
  · exact a_cUi (v_limit_10_10 r hs hr hn) (by rw [hc]; exact sX0_172_10) hd (recv_obj (t := 10) rfl hs hr hn) rfl rfl (by omega) hw kk
  · exact a_cUi (v_limit_8_11 r hs hr hn) (by rw [hc]; exact sX0_172_11) hd (recv_obj (t := 11) rfl hs hr hn) rfl rfl (by omega) hw kk
  · exact a_cUi (v_limit_12_12 r hs hr hn) (by rw [hc]; exact sX0_172_12) hd (recv_obj (t := 12) rfl hs hr hn) rfl rfl (by omega) hw kk
  · exact a_cUi (v_limit_10_13 r hs hr hn) (by rw [hc]; exact sX0_172_13) hd (recv_obj (t := 13) rfl hs hr hn) rfl rfl (by omega) hw kk
theorem d_limit_X2 {g : Gl} {M : MI} {d : Nat} {Q : Outcome → AH → Prop} {pc r p : Nat} {ls : List (Option Value)} {st : List Value} {h : AH} {κ m : Int32}  (pr : PR h r p κ m) (hc : M.1.cls = RX2) (hd : decode M.2.1 pc = .ok (.invokevirtual 125, 3)) (hL : 70 ≤ d) (hw : (st.map fun v => v.category).sum ≤ 40) (kk : AW g M d Q (pc + 3) ls (.int (limOf κ m) :: st) h) : AW g M d Q pc ls (.ref r :: st) h := by
  obtain ⟨t0, ht, rfl, hr0, hn, hs, -, -, i2⟩ := pr
  have hr : 30 ≤ r := by omega
  have ht : t0 = 0 ∨ t0 = 1 ∨ t0 = 2 ∨ t0 = 3 ∨ t0 = 4 ∨ t0 = 5 ∨ t0 = 6 := by omega
  subst i2
  rcases ht with rfl | rfl | rfl | rfl | rfl | rfl | rfl
  · exact a_cVi (v_limit_7_7 r hs hr hn) (by rw [hc]; exact sX2_125_7) hd (recv_obj (t := 7) rfl hs hr hn) rfl rfl (by omega) hw kk
  · exact a_cUi (v_limit_8_8 r hs hr hn) (by rw [hc]; exact sX2_125_8) hd (recv_obj (t := 8) rfl hs hr hn) rfl rfl (by omega) hw kk
  · exact a_cUi (v_limit_9_9 r hs hr hn) (by rw [hc]; exact sX2_125_9) hd (recv_obj (t := 9) rfl hs hr hn) rfl rfl (by omega) hw kk
  · exact a_cUi (v_limit_10_10 r hs hr hn) (by rw [hc]; exact sX2_125_10) hd (recv_obj (t := 10) rfl hs hr hn) rfl rfl (by omega) hw kk
  · exact a_cUi (v_limit_8_11 r hs hr hn) (by rw [hc]; exact sX2_125_11) hd (recv_obj (t := 11) rfl hs hr hn) rfl rfl (by omega) hw kk
  · exact a_cUi (v_limit_12_12 r hs hr hn) (by rw [hc]; exact sX2_125_12) hd (recv_obj (t := 12) rfl hs hr hn) rfl rfl (by omega) hw kk
  · exact a_cUi (v_limit_10_13 r hs hr hn) (by rw [hc]; exact sX2_125_13) hd (recv_obj (t := 13) rfl hs hr hn) rfl rfl (by omega) hw kk
theorem d_needs_X0 {g : Gl} {M : MI} {d : Nat} {Q : Outcome → AH → Prop} {pc r p : Nat} {ls : List (Option Value)} {st : List Value} {h : AH} {κ m : Int32} (hx : Fx h) {D : De} (rd : RD h 32 D) (t : Int32) (pr : PR h r p κ m) (hc : M.1.cls = RX0) (hd : decode M.2.1 pc = .ok (.invokevirtual 250, 3)) (hL : 70 ≤ d) (hw : (st.map fun v => v.category).sum ≤ 40) (kk : ∀ h2, Sm [45] h h2 → AW g M d Q (pc + 3) ls (.int (needsOf D κ m t) :: st) h2) : AW g M d Q pc ls (.int t :: .ref 32 :: .ref r :: st) h := by
  obtain ⟨t0, ht, rfl, hr0, hn, hs, -, -, i2⟩ := pr
  have hr : 30 ≤ r := by omega
  have ht : t0 = 0 ∨ t0 = 1 ∨ t0 = 2 ∨ t0 = 3 ∨ t0 = 4 ∨ t0 = 5 ∨ t0 = 6 := by omega
  subst i2
  rcases ht with rfl | rfl | rfl | rfl | rfl | rfl | rfl
  · exact a_cVe (v_needs_7_7 r t hs hr hn) (by rw [hc]; exact sX0_250_7) hd (recv_obj (t := 7) rfl hs hr hn) rfl rfl (by omega) hw (fun h2 e2 => kk h2 e2)
  · exact a_cVe (v_needs_7_8 r t hs hr hn) (by rw [hc]; exact sX0_250_8) hd (recv_obj (t := 8) rfl hs hr hn) rfl rfl (by omega) hw (fun h2 e2 => kk h2 e2)
  · exact a_cVe (v_needs_7_9 r t hs hr hn) (by rw [hc]; exact sX0_250_9) hd (recv_obj (t := 9) rfl hs hr hn) rfl rfl (by omega) hw (fun h2 e2 => kk h2 e2)
  · exact a_cUe (v_needs_10_10 hx rd r t hs hr hn) (by rw [hc]; exact sX0_250_10) hd (recv_obj (t := 10) rfl hs hr hn) rfl rfl (by omega) hw (fun h2 e2 => kk h2 e2)
  · exact a_cVe (v_needs_7_11 r t hs hr hn) (by rw [hc]; exact sX0_250_11) hd (recv_obj (t := 11) rfl hs hr hn) rfl rfl (by omega) hw (fun h2 e2 => kk h2 e2)
  · exact a_cVe (v_needs_7_12 r t hs hr hn) (by rw [hc]; exact sX0_250_12) hd (recv_obj (t := 12) rfl hs hr hn) rfl rfl (by omega) hw (fun h2 e2 => kk h2 e2)
  · exact a_cUe (v_needs_13_13 hx rd r t hs hr hn) (by rw [hc]; exact sX0_250_13) hd (recv_obj (t := 13) rfl hs hr hn) rfl rfl (by omega) hw (fun h2 e2 => kk h2 e2)
theorem d_needs_X2 {g : Gl} {M : MI} {d : Nat} {Q : Outcome → AH → Prop} {pc r p : Nat} {ls : List (Option Value)} {st : List Value} {h : AH} {κ m : Int32} (hx : Fx h) {D : De} (rd : RD h 32 D) (t : Int32) (pr : PR h r p κ m) (hc : M.1.cls = RX2) (hd : decode M.2.1 pc = .ok (.invokevirtual 109, 3)) (hL : 70 ≤ d) (hw : (st.map fun v => v.category).sum ≤ 40) (kk : ∀ h2, Sm [45] h h2 → AW g M d Q (pc + 3) ls (.int (needsOf D κ m t) :: st) h2) : AW g M d Q pc ls (.int t :: .ref 32 :: .ref r :: st) h := by
  obtain ⟨t0, ht, rfl, hr0, hn, hs, -, -, i2⟩ := pr
  have hr : 30 ≤ r := by omega
  have ht : t0 = 0 ∨ t0 = 1 ∨ t0 = 2 ∨ t0 = 3 ∨ t0 = 4 ∨ t0 = 5 ∨ t0 = 6 := by omega
  subst i2
  rcases ht with rfl | rfl | rfl | rfl | rfl | rfl | rfl
  · exact a_cVe (v_needs_7_7 r t hs hr hn) (by rw [hc]; exact sX2_109_7) hd (recv_obj (t := 7) rfl hs hr hn) rfl rfl (by omega) hw (fun h2 e2 => kk h2 e2)
  · exact a_cVe (v_needs_7_8 r t hs hr hn) (by rw [hc]; exact sX2_109_8) hd (recv_obj (t := 8) rfl hs hr hn) rfl rfl (by omega) hw (fun h2 e2 => kk h2 e2)
  · exact a_cVe (v_needs_7_9 r t hs hr hn) (by rw [hc]; exact sX2_109_9) hd (recv_obj (t := 9) rfl hs hr hn) rfl rfl (by omega) hw (fun h2 e2 => kk h2 e2)
  · exact a_cUe (v_needs_10_10 hx rd r t hs hr hn) (by rw [hc]; exact sX2_109_10) hd (recv_obj (t := 10) rfl hs hr hn) rfl rfl (by omega) hw (fun h2 e2 => kk h2 e2)
  · exact a_cVe (v_needs_7_11 r t hs hr hn) (by rw [hc]; exact sX2_109_11) hd (recv_obj (t := 11) rfl hs hr hn) rfl rfl (by omega) hw (fun h2 e2 => kk h2 e2)
  · exact a_cVe (v_needs_7_12 r t hs hr hn) (by rw [hc]; exact sX2_109_12) hd (recv_obj (t := 12) rfl hs hr hn) rfl rfl (by omega) hw (fun h2 e2 => kk h2 e2)
  · exact a_cUe (v_needs_13_13 hx rd r t hs hr hn) (by rw [hc]; exact sX2_109_13) hd (recv_obj (t := 13) rfl hs hr hn) rfl rfl (by omega) hw (fun h2 e2 => kk h2 e2)
theorem d_called_X2 {g : Gl} {M : MI} {d : Nat} {Q : Outcome → AH → Prop} {pc r p : Nat} {ls : List (Option Value)} {st : List Value} {h : AH} {κ m : Int32} (w o hr2 : Int32) (ho : o = -1 ∨ upto 7 o) (pr : PR h r p κ m) (hc : M.1.cls = RX2) (hd : decode M.2.1 pc = .ok (.invokevirtual 122, 3)) (hL : 70 ≤ d) (hw : (st.map fun v => v.category).sum ≤ 40) (kk : AW g M d Q (pc + 3) ls (.int (calledOf κ w o hr2) :: st) h) : AW g M d Q pc ls (.int hr2 :: .int o :: .int w :: .ref r :: st) h := by
  obtain ⟨t0, ht, rfl, hr0, hn, hs, -, -, i2⟩ := pr
  have hr : 30 ≤ r := by omega
  have ht : t0 = 0 ∨ t0 = 1 ∨ t0 = 2 ∨ t0 = 3 ∨ t0 = 4 ∨ t0 = 5 ∨ t0 = 6 := by omega
  subst i2
  rcases ht with rfl | rfl | rfl | rfl | rfl | rfl | rfl
  · exact a_cVi (v_called_7_7 r w o hr2 hs hr hn) (by rw [hc]; exact sX2_122_7) hd (recv_obj (t := 7) rfl hs hr hn) rfl rfl (by omega) hw (by rw [show w = calledOf (nI 0) w o hr2 from cal_7 w o hr2]; exact kk)
  · exact a_cVi (v_called_7_8 r w o hr2 hs hr hn) (by rw [hc]; exact sX2_122_8) hd (recv_obj (t := 8) rfl hs hr hn) rfl rfl (by omega) hw (by rw [show w = calledOf (nI 1) w o hr2 from cal_8 w o hr2]; exact kk)
  · exact a_cVi (v_called_7_9 r w o hr2 hs hr hn) (by rw [hc]; exact sX2_122_9) hd (recv_obj (t := 9) rfl hs hr hn) rfl rfl (by omega) hw (by rw [show w = calledOf (nI 2) w o hr2 from cal_9 w o hr2]; exact kk)
  · exact a_cUi (v_called_10_10 r w o hr2 hs hr hn) (by rw [hc]; exact sX2_122_10) hd (recv_obj (t := 10) rfl hs hr hn) rfl rfl (by omega) hw (by rw [show (if hr2 - hr2 / 2 * 2 = 0 then w else o) = calledOf (nI 3) w o hr2 from cal_10 w o hr2]; exact kk)
  · exact a_cUi (v_called_11_11 r w o hr2 hs hr hn) (by rw [hc]; exact sX2_122_11) hd (recv_obj (t := 11) rfl hs hr hn) rfl rfl (by omega) hw (by rw [show (if o = -1 then w else o) = calledOf (nI 4) w o hr2 from cal_11 w o hr2 ho]; exact kk)
  · exact a_cUi (v_called_12_12 r w o hr2 hs hr hn) (by rw [hc]; exact sX2_122_12) hd (recv_obj (t := 12) rfl hs hr hn) rfl rfl (by omega) hw (by rw [show (if w = o then -1 else w) = calledOf (nI 5) w o hr2 from cal_12 w o hr2]; exact kk)
  · exact a_cUi (v_called_10_13 r w o hr2 hs hr hn) (by rw [hc]; exact sX2_122_13) hd (recv_obj (t := 13) rfl hs hr hn) rfl rfl (by omega) hw (by rw [show (if hr2 - hr2 / 2 * 2 = 0 then w else o) = calledOf (nI 6) w o hr2 from cal_13 w o hr2]; exact kk)
