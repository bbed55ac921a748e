/-! ===== rows of the instructions that touch the heap ===== -/
theorem gI_pI (h : AH) (a k : Nat) (v : Int32) (b j : Nat) : gI (pI h a k v) b j = if b = a then (if j = k then v else gI h b j) else gI h b j := rfl
theorem gR_pI (h : AH) (a k : Nat) (v : Int32) (b j : Nat) : gR (pI h a k v) b j = gR h b j := rfl
theorem gI_pR (h : AH) (a k : Nat) (v : Option Nat) (b j : Nat) : gI (pR h a k v) b j = gI h b j := rfl
theorem gR_pR (h : AH) (a k : Nat) (v : Option Nat) (b j : Nat) : gR (pR h a k v) b j = if b = a then (if j = k then v else gR h b j) else gR h b j := rfl
theorem gS_pI (h : AH) (a k : Nat) (v : Int32) : gS (pI h a k v) = gS h := rfl
theorem gS_pR (h : AH) (a k : Nat) (v : Option Nat) : gS (pR h a k v) = gS h := rfl
theorem gN_pI (h : AH) (a k : Nat) (v : Int32) : gN (pI h a k v) = gN h := rfl
theorem gN_pR (h : AH) (a k : Nat) (v : Option Nat) : gN (pR h a k v) = gN h := rfl
theorem gZ_pI (h : AH) (a k : Nat) (v : Int32) : gZ (pI h a k v) = gZ h := rfl
theorem gZ_pR (h : AH) (a k : Nat) (v : Option Nat) : gZ (pR h a k v) = gZ h := rfl
theorem gN_pN (h : AH) (t l z : Nat) : gN (pN h t l z) = gN h + 1 := rfl
theorem gZ_pN (h : AH) (t l z : Nat) : gZ (pN h t l z) = gZ h + z := rfl
theorem gS_pN (h : AH) (t l z b : Nat) : gS (pN h t l z) b = if b = gN h then (t, l) else gS h b := rfl
theorem gI_pN (h : AH) (t l z b j : Nat) : gI (pN h t l z) b j = if b = gN h then 0 else gI h b j := rfl
theorem gR_pN (h : AH) (t l z b j : Nat) : gR (pN h t l z) b j = if b = gN h then none else gR h b j := rfl
theorem AdOK.inj {g : Gl} (hA : AdOK g) {a b : Nat} (ha : 30 ≤ a) (hb : 30 ≤ b) (e : ad g a = ad g b) : a = b := by
  rw [hA.1 a ha, hA.1 b hb] at e
  omega
theorem AdOK.ge {g : Gl} (hA : AdOK g) {a : Nat} (ha : 30 ≤ a) : abv g (ad g a) := by
  show gB g ≤ ad g a
  rw [hA.1 a ha]
  omega
/-- the same cell under another heap, abstract and concrete -/
theorem Cel.kept {g : Gl} {h h' : AH} {a : Nat} {H H' : Heap} (hs : gS h' a = gS h a) (hi : ∀ j, gI h' a j = gI h a j) (hr : ∀ j, gR h' a j = gR h a j) (hH : H'[ad g a]? = H[ad g a]?) (k : Cel g h a H) : Cel g h' a H' := by
  have e1 : fv (ad g) h' a = fv (ad g) h a := by
    funext t j
    simp only [fv, hi, hr]
  have e2 : (fun j => Value.int (gI h' a j)) = fun j => Value.int (gI h a j) := by funext j; rw [hi]
  have e3 : (fun j => va_rf ((gR h' a j).map (ad g))) = fun j => va_rf ((gR h a j).map (ad g)) := by funext j; rw [hr]
  unfold Cel
  rw [hs, e1, e2, e3, hH]
  rcases k with ⟨k1, k2, k3⟩ | k | k
  · exact Or.inl ⟨k1, k2, k3.kept hH⟩
  · exact Or.inr (Or.inl k)
  · exact Or.inr (Or.inr k)
theorem Co.put {g : Gl} {h h' : AH} {a : Nat} {H H' : Heap} (hA : AdOK g) (ha : 30 ≤ a) (hC : Co g h H) (hn : gN h' = gN h) (hs : gS h' = gS h) (ho : ∀ b j, b ≠ a → gI h' b j = gI h b j ∧ gR h' b j = gR h b j) (hz : H'.size = H.size) (hq : ∀ q, q ≠ ad g a → H'[q]? = H[q]?) (hc : Cel g h' a H') : Co g h' H' := by
  refine ⟨by rw [hn]; exact hC.1, by rw [hn, hz]; exact hC.2.1, fun b hb hb2 => ?_⟩
  by_cases e : b = a
  · subst e; exact hc
  · exact Cel.kept (by rw [hs]) (fun j => (ho b j e).1) (fun j => (ho b j e).2) (hq _ (fun z => e (hA.inj hb ha z))) (hC.2.2 b hb (by rw [hn] at hb2; exact hb2))
theorem Rt.put {g : Gl} {h0 h h' : AH} {a i : Nat} {Hs H H' : Heap} {locs : List Loc} (hA : AdOK g) (ha : 30 ≤ a) (hR : Rt g h0 h Hs H locs) (hn : gN h' = gN h) (hzz : gZ h' = gZ h) (hs : gS h' = gS h) (ho : ∀ b j, b ≠ a → gI h' b j = gI h b j ∧ gR h' b j = gR h b j) (hz : H'.size = H.size) (hq : ∀ q, q ≠ ad g a → H'[q]? = H[q]?) (hc : Cel g h' a H') : Rt g h0 h' Hs H' (locs ++ [⟨ad g a, i⟩]) := by
  obtain ⟨r1, r2, r3, r4, r5, r6⟩ := hR
  exact ⟨Co.put hA ha r1 hn hs ho hz hq hc, r2.put hz hq (hA.ge ha), by rw [hn]; exact r3, by rw [hzz]; exact r4, by rw [hn]; exact r5, by rw [hzz]; exact r6⟩
/-- what the tables say of a class -/
def ClsOK (t : Nat) : Prop := (∀ w ∈ u_ws (kC t) (kT t) (kN t), w ∈ lw_all) ∧ (∀ k, k < kN t → parseFieldDescriptor (kT t k).2.2.1 = some (kY t k)) ∧ (∀ a, a < kN t → ∀ b, b < kN t → a ≠ b → (kT t a).2.1 ≠ (kT t b).2.1) ∧ Cond.instantiable (kC t) (kM t) ∈ lw_all ∧ Cond.initialized (kC t) ∈ lw_all
theorem clsX0 : ClsOK 0 := ⟨in_X0, tyX0_ok, nmX0, q117, q80⟩
theorem clsX1 : ClsOK 1 := ⟨in_X1, tyX1_ok, nmX1, q125, q84⟩
theorem clsX2 : ClsOK 2 := ⟨in_X2, tyX2_ok, nmX2, q194, q85⟩
theorem clsX3 : ClsOK 3 := ⟨in_X3, tyX3_ok, nmX3, q204, q86⟩
theorem clsX4 : ClsOK 4 := ⟨in_X4, tyX4_ok, nmX4, q295, q87⟩
theorem clsX5 : ClsOK 5 := ⟨in_X5, tyX5_ok, nmX5, q311, q88⟩
theorem clsX6 : ClsOK 6 := ⟨in_X6, tyX6_ok, nmX6, q1425, q89⟩
theorem clsX7 : ClsOK 7 := ⟨in_X7, tyX7_ok, nmX7, q511, q90⟩
theorem clsX8 : ClsOK 8 := ⟨in_X8, tyX8_ok, nmX8, q418, q91⟩
theorem clsX9 : ClsOK 9 := ⟨in_X9, tyX9_ok, nmX9, q461, q92⟩
theorem clsX10 : ClsOK 10 := ⟨in_X10, tyX10_ok, nmX10, q471, q93⟩
theorem clsX11 : ClsOK 11 := ⟨in_X11, tyX11_ok, nmX11, q481, q94⟩
theorem clsX12 : ClsOK 12 := ⟨in_X12, tyX12_ok, nmX12, q491, q95⟩
theorem clsX13 : ClsOK 13 := ⟨in_X13, tyX13_ok, nmX13, q501, q96⟩
theorem clsX15 : ClsOK 15 := ⟨in_X15, tyX15_ok, nmX15, q884, q98⟩
theorem clsX16 : ClsOK 16 := ⟨in_X16, tyX16_ok, nmX16, q678, q100⟩
theorem clsX17 : ClsOK 17 := ⟨in_X17, tyX17_ok, nmX17, q820, q106⟩
theorem clsX18 : ClsOK 18 := ⟨in_X18, tyX18_ok, nmX18, q842, q107⟩
theorem clsX19 : ClsOK 19 := ⟨in_X19, tyX19_ok, nmX19, q861, q108⟩
theorem clsX20 : ClsOK 20 := ⟨in_X20, tyX20_ok, nmX20, q873, q109⟩
theorem clsX22 : ClsOK 22 := ⟨in_X22, tyX22_ok, nmX22, q1319, q112⟩
theorem clsX23 : ClsOK 23 := ⟨in_X23, tyX23_ok, nmX23, q1332, q113⟩
theorem clsX24 : ClsOK 24 := ⟨in_X24, tyX24_ok, nmX24, q1343, q114⟩
theorem clsOK : ∀ t, kOk t = true → ClsOK t := by
  intro t ht
  match t, ht with
  | 0, _ => exact clsX0
  | 1, _ => exact clsX1
  | 2, _ => exact clsX2
  | 3, _ => exact clsX3
  | 4, _ => exact clsX4
  | 5, _ => exact clsX5
  | 6, _ => exact clsX6
  | 7, _ => exact clsX7
  | 8, _ => exact clsX8
  | 9, _ => exact clsX9
  | 10, _ => exact clsX10
  | 11, _ => exact clsX11
  | 12, _ => exact clsX12
  | 13, _ => exact clsX13
  | 14, h => exact nomatch h
  | 15, _ => exact clsX15
  | 16, _ => exact clsX16
  | 17, _ => exact clsX17
  | 18, _ => exact clsX18
  | 19, _ => exact clsX19
  | 20, _ => exact clsX20
  | 21, h => exact nomatch h
  | 22, _ => exact clsX22
  | 23, _ => exact clsX23
  | 24, _ => exact clsX24
  | t + 25, h => exact absurd h (by simp [kOk])
/-- the pool entry idx of the class own names field k of objects of the class t -/
def FldOK (own : String) (idx t k : Nat) : Prop := kOk t = true ∧ k < kN t ∧
  ((∃ ref, Cond.fieldLink own idx ref (kT t k).2.1 (kT t k).2.2.1 ∈ lw_all ∧ (ref = (kT t k).1 ∨ Cond.sameField ref (kT t k).1 (kT t k).2.1 (kT t k).2.2.1 ∈ lw_all)) ∨
   (∃ host, Cond.fieldLinkNest own idx (kT t k).1 (kT t k).2.1 (kT t k).2.2.1 host ∈ lw_tbl))
theorem Co.obj {g : Gl} {h : AH} {H : Heap} {a t len : Nat} (hC : Co g h H) (ha : 30 ≤ a) (hn : a < gN h) (hs : gS h a = (t, len)) (ht : kOk t = true) : t_OB (ad g a) (dC g t) (kN t) (dI g t) H (fv (ad g) h a t) := by
  have ht' : t < 40 := by
    have : t < 25 := by simp [kOk] at ht; omega
    omega
  have hc := hC.2.2 a ha hn
  unfold Cel at hc
  rw [hs] at hc
  rcases hc with ⟨_, _, k⟩ | ⟨k, _⟩ | ⟨k, _⟩
  · exact k
  · exact absurd ht' (Nat.not_lt.mpr k)
  · exact absurd (show t < 44 by omega) (Nat.not_lt.mpr k)
theorem Co.arrI {g : Gl} {h : AH} {H : Heap} {a t len : Nat} (hC : Co g h H) (ha : 30 ≤ a) (hn : a < gN h) (hs : gS h a = (t, len)) (h1 : 40 ≤ t) (h2 : t < 44) : H[ad g a]? = some (arrV (ca g t) len (fun j => .int (gI h a j))) := by
  have hc := hC.2.2 a ha hn
  unfold Cel at hc
  rw [hs] at hc
  rcases hc with ⟨k, _⟩ | ⟨_, _, k⟩ | ⟨k, _⟩
  · exact absurd k (Nat.not_lt.mpr h1)
  · exact k
  · exact absurd h2 (Nat.not_lt.mpr k)
theorem Co.arrR {g : Gl} {h : AH} {H : Heap} {a t len : Nat} (hC : Co g h H) (ha : 30 ≤ a) (hn : a < gN h) (hs : gS h a = (t, len)) (h1 : 44 ≤ t) (h2 : t < 47) : H[ad g a]? = some (arrV (ca g t) len (fun j => va_rf ((gR h a j).map (ad g)))) := by
  have hc := hC.2.2 a ha hn
  unfold Cel at hc
  rw [hs] at hc
  rcases hc with ⟨k, _⟩ | ⟨_, k, _⟩ | ⟨_, _, k⟩
  · exact absurd k (by show ¬ t < 40; omega)
  · exact absurd k (by show ¬ t < 44; omega)
  · exact k
/-- where an object's field is found -/
theorem fld_found {g : Gl} {s : State} {args : Array Value} {t k : Nat} (hK : Kw g s) (ht : kOk t = true) (hk : k < kN t) : ∃ cf kf fi f, s.fieldFound? (kT t k).1 (kT t k).2.1 (kT t k).2.2.1 = some (cf, kf, fi, f) ∧ f.slot = dI g t k ∧ f.isStatic = false := by
  obtain ⟨hin, hty, hnm, -⟩ := clsOK t ht
  obtain ⟨hS, hfc, kC', hkC, hkind⟩ := hK.2.2.2.1 t ht
  obtain ⟨cf, kf, fi, f, hi, hsl⟩ := hS k hk
  exact ⟨cf, kf, fi, f, hi, hsl, (u_facts hfc hkC (u_lays (fun w hw => hK.1 w hw args) hin hk) hi).1⟩
section
variable {g : Gl} {M : MI} {d : Nat} {Q : Outcome → AH → Prop} {pc : Nat} {ls : List (Option Value)} {st : List Value} {h : AH}
theorem a_get {idx t k a len : Nat} {v : Value} (hd : decode M.2.1 pc = .ok (.getfield idx, 3)) (hF : FldOK M.1.cls idx t k) (hs : gS h a = (t, len)) (ha : 30 ≤ a) (hn : a < gN h) (hv : v = if kF t k = true then rfv (gR h a k) else .int (gI h a k)) (kk : AW g M d Q (pc + 3) ls (v :: st) h) : AW g M d Q pc ls (.ref a :: st) h := by
  intro p e R s m args below meth c h0 H locs lC hC hR hL
  have kk := kk p e R s m args below meth c h0 H locs lC hC hR hL
  obtain ⟨hx, hb, hml, hex, hre, hlk, hnm0, hown, hS, -⟩ := hC
  obtain ⟨ht, hk, hlink⟩ := hF
  obtain ⟨cell, q1, q2, q3, q4⟩ := Co.obj hR.1 ha hn hs ht
  obtain ⟨cf, kf, fi, f, hi, hsl, hst⟩ := fld_found (args := args) hS.1 ht hk
  have hval : cell.slots[f.slot]? = some (trv (ad g) v) := by
    rw [hsl, q4 k hk, hv]
    unfold fv
    by_cases e : kF t k = true
    · rw [if_pos e, if_pos e, trv_rfv]
    · rw [if_neg e, if_neg e]; rfl
  rcases hlink with ⟨ref, hl, hr⟩ | ⟨host, hl⟩
  · have hsame : s.fieldFound? ref (kT t k).2.1 (kT t k).2.2.1 = some (cf, kf, fi, f) := by
      rcases hr with rfl | hr
      · exact hi
      · exact u_same (hS.1.1 _ hr args) _ hi
    exact W.getf hx hb hown (hS.1.1 _ hl args) hsame hst q1 (by rw [q3]; exact fun z => by cases z) hval rfl rfl hd kk
  · exact va_Wgetf hx hb hown (va_Nw.use rfl (hS.1.2.1 _ hl rfl)) hi hst q1 (by rw [q3]; exact fun z => by cases z) hval rfl rfl hd kk
theorem a_getI {idx t k a len : Nat} (hd : decode M.2.1 pc = .ok (.getfield idx, 3)) (hF : FldOK M.1.cls idx t k) (hf : kF t k = false) (hs : gS h a = (t, len)) (ha : 30 ≤ a) (hn : a < gN h) (kk : AW g M d Q (pc + 3) ls (.int (gI h a k) :: st) h) : AW g M d Q pc ls (.ref a :: st) h :=
  a_get hd hF hs ha hn (by rw [hf]; rfl) kk
theorem a_getR {idx t k a b len : Nat} (hd : decode M.2.1 pc = .ok (.getfield idx, 3)) (hF : FldOK M.1.cls idx t k) (hf : kF t k = true) (hs : gS h a = (t, len)) (ha : 30 ≤ a) (hn : a < gN h) (hr : gR h a k = some b) (kk : AW g M d Q (pc + 3) ls (.ref b :: st) h) : AW g M d Q pc ls (.ref a :: st) h :=
  a_get hd hF hs ha hn (by rw [hf, hr]; rfl) kk
theorem a_getN {idx t k a len : Nat} (hd : decode M.2.1 pc = .ok (.getfield idx, 3)) (hF : FldOK M.1.cls idx t k) (hf : kF t k = true) (hs : gS h a = (t, len)) (ha : 30 ≤ a) (hn : a < gN h) (hr : gR h a k = none) (kk : AW g M d Q (pc + 3) ls (.null :: st) h) : AW g M d Q pc ls (.ref a :: st) h :=
  a_get hd hF hs ha hn (by rw [hf, hr]; rfl) kk
/-- the world behind a store into a field -/
theorem put_cel {g : Gl} {s : State} {args : Array Value} {h h' : AH} {a t k len : Nat} {v : Value} {H' : Heap} {cell : Cell} (hK : Kw g s) (ht : kOk t = true) (hk : k < kN t) (hs : gS h' a = (t, len)) (hv : ∀ j, fv (ad g) h' a t j = updV (fv (ad g) h a t) k v j) (q2 : cell.cls = dC g t) (q3 : cell.vm = .none) (q4 : ∀ j, j < kN t → cell.slots[dI g t j]? = some (fv (ad g) h a t j)) (e1 : H'[ad g a]? = some (cell.setSlot (dI g t k) v)) : Cel g h' a H' := by
  obtain ⟨hin, hty, hnm, -⟩ := clsOK t ht
  have hap : ∀ x y, x < kN t → y < kN t → x ≠ y → dI g t x ≠ dI g t y := by
    intro x y hx hy hne
    obtain ⟨hS, -⟩ := hK.2.2.2.1 t ht
    obtain ⟨_, _, _, fa, hia, ea⟩ := hS x hx
    obtain ⟨_, _, _, fb, hib, eb⟩ := hS y hy
    rw [← ea, ← eb]
    refine u_apart (args := args) (u_lays (fun w hw => hK.1 w hw args) hin hx) (u_lays (fun w hw => hK.1 w hw args) hin hy) hia hib ?_
    rw [(State.fieldFound?_type hia (hty x hx)).1, (State.fieldFound?_type hib (hty y hy)).1]
    exact hnm x hx y hy hne
  refine Or.inl ⟨?_, by rw [hs]; exact ht, ?_⟩
  · rw [hs]
    have : t < 25 := by simp [kOk] at ht; omega
    show t < 40
    omega
  · rw [hs]
    exact ⟨_, e1, q2, q3, fun j hj => by rw [t_set q4 hap hk v j hj, hv]⟩
theorem a_put {idx t k a len : Nat} {v w : Value} {h' : AH} (hd : decode M.2.1 pc = .ok (.putfield idx, 3)) (hF : FldOK M.1.cls idx t k) (hfin : (kT t k).2.2.2 = false ∨ (M.1.name = "<init>" ∧ (kT t k).1 = M.1.cls)) (hs : gS h a = (t, len)) (ha : 30 ≤ a) (hn : a < gN h) (hw : trv (ad g) v = w) (hnr : narrow (kY t k) w = w) (hfit : fits (kY t k) w = true)
    (hn' : gN h' = gN h) (hz' : gZ h' = gZ h) (hs' : gS h' = gS h) (ho : ∀ b j, b ≠ a → gI h' b j = gI h b j ∧ gR h' b j = gR h b j) (hv : ∀ j, fv (ad g) h' a t j = updV (fv (ad g) h a t) k w j)
    (kk : AW g M d Q (pc + 3) ls st h') : AW g M d Q pc ls (v :: .ref a :: st) h := by
  intro p e R s m args below meth c h0 H locs lC hC hR hL
  obtain ⟨hx, hb, hml, hex, hre, hlk, hnm0, hown, hS, -⟩ := id hC
  obtain ⟨ht, hk, hlink⟩ := hF
  obtain ⟨cell, q1, q2, q3, q4⟩ := Co.obj hR.1 ha hn hs ht
  obtain ⟨cf, kf, fi, f, hi, hsl, hst⟩ := fld_found (args := args) hS.1 ht hk
  obtain ⟨hin, hty, hnm, -⟩ := clsOK t ht
  obtain ⟨hSl, hfc, kC', hkC, hkind⟩ := hS.1.2.2.2.1 t ht
  have hlay := hS.1.1 _ (hin _ (u_in_lay hk)) args
  have hlt : f.slot < cell.slots.size := by rw [hsl]; exact k2_hasslot (q4 k hk)
  have h6 := u_fits hfc hkC hkind (u_lays (fun w hw => hS.1.1 w hw args) hin hk) hi (hty k hk) hnr hfit
  have hcont : ∀ H' : Heap, H'[ad g a]? = some (cell.setSlot f.slot w) → H'.size = H.size → (∀ q, q ≠ ad g a → H'[q]? = H[q]?) → W p g.1 e R s m args below meth c H' (locs ++ [⟨ad g a, f.slot⟩]) (gN h - gN h0) (gZ h - gZ h0) (AQ g Q h0 below s) (F0 m (pc + 3) lC (st.map (trv (ad g)))) := by
    intro H' e1 e2 e3
    have hk2 := kk p e R s m args below meth c h0 H' (locs ++ [⟨ad g a, f.slot⟩]) lC hC (hR.put hS.2.2.1 ha hn' hz' hs' ho e2 e3 (put_cel (args := args) hS.1 ht hk (by rw [hs']; exact hs) hv q2 q3 q4 (by rw [← hsl]; exact e1))) hL
    rw [hn', hz'] at hk2
    exact hk2
  have hst' : (v :: .ref a :: st).map (trv (ad g)) = w :: .ref (ad g a) :: st.map (trv (ad g)) := by
    show trv (ad g) v :: _ = _
    rw [hw]
    rfl
  rw [hst']
  have hF2 : hasFlag f.accessFlags Acc.final = false ∨ (m.cls = cf ∧ meth.name = "<init>") := by
    rcases hfin with h1 | ⟨h1, h2⟩
    · unfold u_lay at hlay
      rw [if_neg (by rw [h1]; decide)] at hlay
      exact Or.inl (u_store hfc hkC hkind hlay hi (hty k hk) hnr hfit).1
    · by_cases hq : (kT t k).2.2.2 = true
      · unfold u_lay at hlay
        rw [if_pos hq] at hlay
        obtain ⟨_, _, c', _, _, _, -, -, hf', -, -, -, hown2, -⟩ := Cond.laysFinal_spec hlay
        have e1 : c' = cf := by have := hi.symm.trans hf'; simp at this; exact this.1.symm
        rw [h2] at hown2
        exact Or.inr ⟨by rw [← e1]; exact Option.some.inj (hown.symm.trans hown2), hnm0.trans h1⟩
      · unfold u_lay at hlay
        rw [if_neg hq] at hlay
        exact Or.inl (u_store hfc hkC hkind hlay hi (hty k hk) hnr hfit).1
  have hla : ad g a < H.size := (Array.getElem?_eq_some_iff.mp q1).1
  have hcont2 := hcont (H.setIfInBounds (ad g a) (cell.setSlot f.slot w)) (by simp [Array.getElem?_setIfInBounds, hla]) (by simp) (fun q hq => by simp [Array.getElem?_setIfInBounds, Ne.symm hq])
  rcases hlink with ⟨ref, hl, hr⟩ | ⟨host, hl⟩
  · have hsame : s.fieldFound? ref (kT t k).2.1 (kT t k).2.2.1 = some (cf, kf, fi, f) := by
      rcases hr with rfl | hr
      · exact hi
      · exact u_same (hS.1.1 _ hr args) _ hi
    exact W.putf hx hb hown (hS.1.1 _ hl args) hsame hst hF2 q1 (by rw [q3]; exact fun z => by cases z) hlt h6.1 (by rw [q2, q3]; exact h6.2) rfl rfl hd hcont2
  · exact va_Wputf hx hb hown (va_Nw.use rfl (hS.1.2.1 _ hl rfl)) hi hst hF2 q1 (by rw [q3]; exact fun z => by cases z) hlt h6.1 (by rw [q2, q3]; exact h6.2) rfl rfl hd hcont2
theorem a_putI {idx t k a len : Nat} {x : Int32} (hd : decode M.2.1 pc = .ok (.putfield idx, 3)) (hF : FldOK M.1.cls idx t k) (hfin : (kT t k).2.2.2 = false ∨ (M.1.name = "<init>" ∧ (kT t k).1 = M.1.cls)) (hf : kF t k = false) (hs : gS h a = (t, len)) (ha : 30 ≤ a) (hn : a < gN h) (hnr : narrow (kY t k) (.int x) = .int x) (hfit : fits (kY t k) (.int x) = true) (kk : AW g M d Q (pc + 3) ls st (pI h a k x)) : AW g M d Q pc ls (.int x :: .ref a :: st) h := by
  refine a_put (h' := pI h a k x) hd hF hfin hs ha hn rfl hnr hfit rfl rfl rfl (fun b j hb => ⟨by rw [gI_pI, if_neg hb], rfl⟩) (fun j => ?_) kk
  unfold fv updV
  by_cases e : j = k
  · subst e
    rw [if_pos rfl, if_neg (by rw [hf]; decide), gI_pI, if_pos rfl, if_pos rfl]
    rfl
  · rw [if_neg e, gI_pI, if_pos rfl, if_neg e]
    rfl
theorem rf_nar {ty : FieldType} (h : isRf ty = true) (r : Option Nat) : narrow ty (va_rf r) = va_rf r ∧ fits ty (va_rf r) = true := by
  cases ty <;> first | (cases h; done) | (cases r <;> exact ⟨rfl, rfl⟩)
theorem a_putR {idx t k a len : Nat} {r : Option Nat} {v : Value} (hv : v = rfv r) (hd : decode M.2.1 pc = .ok (.putfield idx, 3)) (hF : FldOK M.1.cls idx t k) (hfin : (kT t k).2.2.2 = false ∨ (M.1.name = "<init>" ∧ (kT t k).1 = M.1.cls)) (hf : kF t k = true) (hs : gS h a = (t, len)) (ha : 30 ≤ a) (hn : a < gN h) (kk : AW g M d Q (pc + 3) ls st (pR h a k r)) : AW g M d Q pc ls (v :: .ref a :: st) h := by
  subst hv
  refine a_put (h' := pR h a k r) (w := va_rf (r.map (ad g))) hd hF hfin hs ha hn (trv_rfv _ _) (rf_nar hf _).1 (rf_nar hf _).2 rfl rfl rfl (fun b j hb => ⟨rfl, by rw [gR_pR, if_neg hb]⟩) (fun j => ?_) kk
  unfold fv updV
  by_cases e : j = k
  · subst e
    rw [if_pos rfl, if_pos hf, gR_pR, if_pos rfl, if_pos rfl]
  · rw [if_neg e, gR_pR, if_pos rfl, if_neg e]
    rfl
end
