/-! ===== how relations are kept (printed by gen/p51.py) ===== -/
/-- objects made later stay as they are -/
def Xt (h h' : AH) : Prop := gN h ≤ gN h' ∧ ∀ a, 96 ≤ a → a < gN h → gS h' a = gS h a ∧ ((gS h a).1 < 40 → ∀ k, gI h' a k = gI h a k ∧ gR h' a k = gR h a k)
/-- so do arrays -/
def Xa (h h' : AH) : Prop := gN h ≤ gN h' ∧ ∀ a, 96 ≤ a → a < gN h → gS h' a = gS h a ∧ ∀ k, gI h' a k = gI h a k ∧ gR h' a k = gR h a k
theorem Xa.t {h h' : AH} (x : Xa h h') : Xt h h' := ⟨x.1, fun a h1 h2 => ⟨(x.2 a h1 h2).1, fun _ => (x.2 a h1 h2).2⟩⟩
theorem Xt.rf (h : AH) : Xt h h := ⟨Nat.le_refl _, fun _ _ _ => ⟨rfl, fun _ _ => ⟨rfl, rfl⟩⟩⟩
theorem Xt.tr {h h' h2 : AH} (x : Xt h h') (y : Xt h' h2) : Xt h h2 := by
  refine ⟨Nat.le_trans x.1 y.1, fun a h1 h3 => ?_⟩
  obtain ⟨e1, f1⟩ := x.2 a h1 h3
  obtain ⟨e2, f2⟩ := y.2 a h1 (Nat.lt_of_lt_of_le h3 x.1)
  refine ⟨e2.trans e1, fun ht k => ?_⟩
  have q1 := f1 ht k
  have q2 := f2 (by rw [e1]; exact ht) k
  exact ⟨q2.1.trans q1.1, q2.2.trans q1.2⟩
theorem Xa.rf (h : AH) : Xa h h := ⟨Nat.le_refl _, fun _ _ _ => ⟨rfl, fun _ => ⟨rfl, rfl⟩⟩⟩
theorem Xa.tr {h h' h2 : AH} (x : Xa h h') (y : Xa h' h2) : Xa h h2 := by
  refine ⟨Nat.le_trans x.1 y.1, fun a h1 h3 => ?_⟩
  obtain ⟨e1, f1⟩ := x.2 a h1 h3
  obtain ⟨e2, f2⟩ := y.2 a h1 (Nat.lt_of_lt_of_le h3 x.1)
  refine ⟨e2.trans e1, fun k => ?_⟩
  have q1 := f1 k
  have q2 := f2 k
  exact ⟨q2.1.trans q1.1, q2.2.trans q1.2⟩
theorem Xa.qI {h h' : AH} (x : Xa h h') {a : Nat} (ha : gN h ≤ a) (k : Nat) (v : Int32) : Xa h (pI h' a k v) := by
  refine ⟨x.1, fun b h1 h3 => ⟨(x.2 b h1 h3).1, fun j => ?_⟩⟩
  rw [gI_pI, if_neg (by omega)]
  exact (x.2 b h1 h3).2 j
theorem Xa.pI {h h' : AH} (x : Xa h h') {a : Nat} (ha : a < 96) (k : Nat) (v : Int32) : Xa h (pI h' a k v) := by
  refine ⟨x.1, fun b h1 h3 => ⟨(x.2 b h1 h3).1, fun j => ?_⟩⟩
  rw [gI_pI, if_neg (by omega)]
  exact (x.2 b h1 h3).2 j
theorem Xa.pR {h h' : AH} (x : Xa h h') {a : Nat} (ha : a < 96 ∨ gN h ≤ a) (k : Nat) (v : Option Nat) : Xa h (pR h' a k v) := by
  refine ⟨x.1, fun b h1 h3 => ⟨(x.2 b h1 h3).1, fun j => ?_⟩⟩
  rw [gR_pR, if_neg (by omega)]
  exact (x.2 b h1 h3).2 j
theorem Xa.pN {h h' : AH} (x : Xa h h') (t l z : Nat) : Xa h (pN h' t l z) := by
  refine ⟨by rw [gN_pN]; exact Nat.le_succ_of_le x.1, fun b h1 h3 => ?_⟩
  have hx := x.1
  rw [gS_pN, if_neg (by omega)]
  refine ⟨(x.2 b h1 h3).1, fun j => ?_⟩
  rw [gI_pN, gR_pN, if_neg (by omega), if_neg (by omega)]
  exact (x.2 b h1 h3).2 j
theorem Sm.xa {S : List Nat} {h h' : AH} (p : Sm S h h') (hs : ∀ a, a ∈ S → a < 96 := by decide) : Xa h h' := by
  refine ⟨by rw [p.gN]; exact Nat.le_refl _, fun a h1 h2 => ⟨by rw [p.gS], fun k => ⟨p.2 a (fun z => absurd (hs a z) (by omega)) k, by rw [p.gR]⟩⟩⟩
theorem TOK.xt {h h' : AH} (x : Xt h h') : ∀ (n r : Nat) (v : Vf), TOK h n r v → TOK h' n r v
  | 0, _, _, q => q
  | n + 1, r, v, q => by
    obtain ⟨h1, h2, q⟩ := q
    obtain ⟨e1, f1⟩ := x.2 r h1 h2
    refine ⟨h1, Nat.lt_of_lt_of_le h2 x.1, ?_⟩
    rw [e1]
    rcases q with ⟨s, e⟩ | ⟨s, k, hk, e, ev⟩ | ⟨s, a, w, e, t, ev⟩ | ⟨s, sg, a, b, w, z, ea, eb, ta, tb, ev⟩
    · have f := f1 (by rw [s]; decide)
      exact Or.inl ⟨s, by rw [(f 0).1]; exact e⟩
    · have f := f1 (by rw [s]; decide)
      exact Or.inr (Or.inl ⟨s, k, hk, by rw [(f 0).1]; exact e, ev⟩)
    · have f := f1 (by rw [s]; decide)
      exact Or.inr (Or.inr (Or.inl ⟨s, a, w, by rw [(f 0).2]; exact e, TOK.xt x n a w t, ev⟩))
    · have f := f1 (by rw [s]; decide)
      exact Or.inr (Or.inr (Or.inr ⟨s, by rw [(f 0).1]; exact sg, a, b, w, z, by rw [(f 1).2]; exact ea, by rw [(f 2).2]; exact eb, TOK.xt x n a w ta, TOK.xt x n b z tb, by rw [(f 0).1]; exact ev⟩))
theorem PR.xt {h h' : AH} (x : Xt h h') {r p : Nat} {κ m : Int32} (q : PR h r p κ m) : PR h' r p κ m := by
  obtain ⟨t, ht, e, h1, h2, s, r0, i1, i2⟩ := q
  obtain ⟨e1, f1⟩ := x.2 r h1 h2
  have f := f1 (by rw [s]; show 7 + t < 40; omega)
  exact ⟨t, ht, e, h1, Nat.lt_of_lt_of_le h2 x.1, by rw [e1]; exact s, by rw [(f 0).2]; exact r0, by rw [(f 1).1]; exact i1, by rw [(f 2).1]; exact i2⟩
theorem RDP.xt {h h' : AH} {b : Nat} {D D' : De} (x : Xt h h') (k4 : ∀ k, gR h' (b + 4) k = gR h (b + 4) k) (q : RDP h b D) (e3 : D' 3 3 = D 3 3 := by rfl) (e4 : D' 4 = D 4 := by rfl) (e5 : D' 5 = D 5 := by rfl) : RDP h' b D' := by
  refine ⟨fun p hp => ?_, fun p hp h2 => ?_⟩
  · rw [e3] at hp
    obtain ⟨r, e, q⟩ := q.1 p hp
    exact ⟨r, by rw [k4]; exact e, by rw [e4, e5]; exact q.xt x⟩
  · rw [e3] at h2
    rw [k4]
    exact q.2 p hp h2
theorem RDT.xt {h h' : AH} {b : Nat} {D D' : De} (x : Xt h h') (k9 : ∀ k, gR h' (b + 9) k = gR h (b + 9) k) (q : RDT h b D) (e1 : D' 11 = D 11 := by rfl) (e2 : D' 12 = D 12 := by rfl) (e3 : D' 13 = D 13 := by rfl) : RDT h' b D' := by
  intro u hu
  have e : D' (12 + u) = D (12 + u) := by
    match u, hu with
    | 0, _ => exact e2
    | 1, _ => exact e3
  rw [e1, e, k9]
  rcases q u hu with q | ⟨r, v, q1, q2, q3, q4⟩
  · exact Or.inl q
  · exact Or.inr ⟨r, v, q1, q2, q3, TOK.xt x _ _ _ q4⟩
theorem RD.keep {h h' : AH} {b : Nat} {D : De} (x : Xt h h') (ki : ∀ a, b ≤ a → a ≤ b + 11 → ∀ k, gI h' a k = gI h a k) (k4 : ∀ k, gR h' (b + 4) k = gR h (b + 4) k) (k9 : ∀ k, gR h' (b + 9) k = gR h (b + 9) k) (q : RD h b D) : RD h' b D := by
  obtain ⟨r1, r2, r3, r4, r5, r6, r7, r8, r9, r10, r11, r12⟩ := q
  refine ⟨?_, ?_, ?_, ?_, ?_, ?_, ?_, ?_, ?_, ?_, r11.xt x k4, r12.xt x k9⟩
  · intro w hw; rw [ki _ (by omega) (by omega)]; exact r1 w hw
  · intro w hw; rw [ki _ (by omega) (by omega)]; exact r2 w hw
  · intro w hw; rw [ki _ (by omega) (by omega)]; exact r3 w hw
  · have := ki b (by omega) (by omega)
    simp only [this]
    exact r4
  · intro w hw; rw [ki _ (by omega) (by omega)]; exact r5 w hw
  · intro w hw; rw [ki _ (by omega) (by omega)]; exact r6 w hw
  · intro w hw; rw [ki _ (by omega) (by omega)]; exact r7 w hw
  · intro w hw; rw [ki _ (by omega) (by omega)]; exact r8 w hw
  · intro w hw; rw [ki _ (by omega) (by omega)]; exact r9 w hw
  · intro w hw; rw [ki _ (by omega) (by omega)]; exact r10 w hw
theorem RD.sm {S : List Nat} {h h' : AH} {b : Nat} {D : De} (p : Sm S h h') (q : RD h b D) (hs : ∀ a, a ∈ S → a < 96 := by decide) (hb : ∀ a, a ∈ S → a < b ∨ b + 11 < a := by decide) : RD h' b D :=
  RD.keep (p.xa hs).t (fun a h1 h2 => p.2 a (fun z => absurd (hb a z) (by omega))) (fun k => by rw [p.gR]) (fun k => by rw [p.gR]) q
theorem RD.water {h : AH} {b : Nat} {D : De} (hb : b + 13 < 96) (q : RD h b D) (j : Nat) (v : Int32) : RD (pI h (b + 1) j v) b (up2 D 0 j v) := by
  obtain ⟨r1, r2, r3, r4, r5, r6, r7, r8, r9, r10, r11, r12⟩ := q
  have x : Xt h (pI h (b + 1) j v) := ((Xa.rf h).pI (by omega) _ _).t
  refine ⟨?_, ?_, ?_, ?_, ?_, ?_, ?_, ?_, ?_, ?_, r11.xt x (fun _ => rfl), r12.xt x (fun _ => rfl)⟩ <;> (simp only [gI_pI, up2]; grind)
theorem RD.road {h : AH} {b : Nat} {D : De} (hb : b + 13 < 96) (q : RD h b D) (j : Nat) (v : Int32) : RD (pI h (b + 2) j v) b (up2 D 1 j v) := by
  obtain ⟨r1, r2, r3, r4, r5, r6, r7, r8, r9, r10, r11, r12⟩ := q
  have x : Xt h (pI h (b + 2) j v) := ((Xa.rf h).pI (by omega) _ _).t
  refine ⟨?_, ?_, ?_, ?_, ?_, ?_, ?_, ?_, ?_, ?_, r11.xt x (fun _ => rfl), r12.xt x (fun _ => rfl)⟩ <;> (simp only [gI_pI, up2]; grind)
theorem RD.owed {h : AH} {b : Nat} {D : De} (hb : b + 13 < 96) (q : RD h b D) (j : Nat) (v : Int32) : RD (pI h (b + 3) j v) b (up2 D 2 j v) := by
  obtain ⟨r1, r2, r3, r4, r5, r6, r7, r8, r9, r10, r11, r12⟩ := q
  have x : Xt h (pI h (b + 3) j v) := ((Xa.rf h).pI (by omega) _ _).t
  refine ⟨?_, ?_, ?_, ?_, ?_, ?_, ?_, ?_, ?_, ?_, r11.xt x (fun _ => rfl), r12.xt x (fun _ => rfl)⟩ <;> (simp only [gI_pI, up2]; grind)
theorem RD.rain {h : AH} {b : Nat} {D : De} (hb : b + 13 < 96) (q : RD h b D) (v : Int32) : RD (pI h (b) 3 v) b (up2 D 3 0 v) := by
  obtain ⟨r1, r2, r3, r4, r5, r6, r7, r8, r9, r10, r11, r12⟩ := q
  have x : Xt h (pI h (b) 3 v) := ((Xa.rf h).pI (by omega) _ _).t
  refine ⟨?_, ?_, ?_, ?_, ?_, ?_, ?_, ?_, ?_, ?_, r11.xt x (fun _ => rfl), r12.xt x (fun _ => rfl)⟩ <;> (simp only [gI_pI, up2]; grind)
theorem RD.hour {h : AH} {b : Nat} {D : De} (hb : b + 13 < 96) (q : RD h b D) (v : Int32) : RD (pI h (b) 4 v) b (up2 D 3 1 v) := by
  obtain ⟨r1, r2, r3, r4, r5, r6, r7, r8, r9, r10, r11, r12⟩ := q
  have x : Xt h (pI h (b) 4 v) := ((Xa.rf h).pI (by omega) _ _).t
  refine ⟨?_, ?_, ?_, ?_, ?_, ?_, ?_, ?_, ?_, ?_, r11.xt x (fun _ => rfl), r12.xt x (fun _ => rfl)⟩ <;> (simp only [gI_pI, up2]; grind)
theorem RD.day {h : AH} {b : Nat} {D : De} (hb : b + 13 < 96) (q : RD h b D) (v : Int32) : RD (pI h (b) 5 v) b (up2 D 3 2 v) := by
  obtain ⟨r1, r2, r3, r4, r5, r6, r7, r8, r9, r10, r11, r12⟩ := q
  have x : Xt h (pI h (b) 5 v) := ((Xa.rf h).pI (by omega) _ _).t
  refine ⟨?_, ?_, ?_, ?_, ?_, ?_, ?_, ?_, ?_, ?_, r11.xt x (fun _ => rfl), r12.xt x (fun _ => rfl)⟩ <;> (simp only [gI_pI, up2]; grind)
theorem RD.z {h : AH} {b : Nat} {D : De} (hb : b + 13 < 96) (q : RD h b D) (v : Int32) : RD (pI h (b) 13 v) b (up2 D 3 4 v) := by
  obtain ⟨r1, r2, r3, r4, r5, r6, r7, r8, r9, r10, r11, r12⟩ := q
  have x : Xt h (pI h (b) 13 v) := ((Xa.rf h).pI (by omega) _ _).t
  refine ⟨?_, ?_, ?_, ?_, ?_, ?_, ?_, ?_, ?_, ?_, r11.xt x (fun _ => rfl), r12.xt x (fun _ => rfl)⟩ <;> (simp only [gI_pI, up2]; grind)
theorem RD.taped {h : AH} {b : Nat} {D : De} (hb : b + 13 < 96) (q : RD h b D) (v : Int32) : RD (pI h (b) 15 v) b (up2 D 3 5 v) := by
  obtain ⟨r1, r2, r3, r4, r5, r6, r7, r8, r9, r10, r11, r12⟩ := q
  have x : Xt h (pI h (b) 15 v) := ((Xa.rf h).pI (by omega) _ _).t
  refine ⟨?_, ?_, ?_, ?_, ?_, ?_, ?_, ?_, ?_, ?_, r11.xt x (fun _ => rfl), r12.xt x (fun _ => rfl)⟩ <;> (simp only [gI_pI, up2]; grind)
theorem RD.waits {h : AH} {b : Nat} {D : De} (hb : b + 13 < 96) (q : RD h b D) (v : Int32) : RD (pI h (b) 17 v) b (up2 D 3 6 v) := by
  obtain ⟨r1, r2, r3, r4, r5, r6, r7, r8, r9, r10, r11, r12⟩ := q
  have x : Xt h (pI h (b) 17 v) := ((Xa.rf h).pI (by omega) _ _).t
  refine ⟨?_, ?_, ?_, ?_, ?_, ?_, ?_, ?_, ?_, ?_, r11.xt x (fun _ => rfl), r12.xt x (fun _ => rfl)⟩ <;> (simp only [gI_pI, up2]; grind)
theorem RD.at {h : AH} {b : Nat} {D : De} (hb : b + 13 < 96) (q : RD h b D) (j : Nat) (v : Int32) : RD (pI h (b + 5) j v) b (up2 D 6 j v) := by
  obtain ⟨r1, r2, r3, r4, r5, r6, r7, r8, r9, r10, r11, r12⟩ := q
  have x : Xt h (pI h (b + 5) j v) := ((Xa.rf h).pI (by omega) _ _).t
  refine ⟨?_, ?_, ?_, ?_, ?_, ?_, ?_, ?_, ?_, ?_, r11.xt x (fun _ => rfl), r12.xt x (fun _ => rfl)⟩ <;> (simp only [gI_pI, up2]; grind)
theorem RD.name {h : AH} {b : Nat} {D : De} (hb : b + 13 < 96) (q : RD h b D) (j : Nat) (v : Int32) : RD (pI h (b + 6) j v) b (up2 D 7 j v) := by
  obtain ⟨r1, r2, r3, r4, r5, r6, r7, r8, r9, r10, r11, r12⟩ := q
  have x : Xt h (pI h (b + 6) j v) := ((Xa.rf h).pI (by omega) _ _).t
  refine ⟨?_, ?_, ?_, ?_, ?_, ?_, ?_, ?_, ?_, ?_, r11.xt x (fun _ => rfl), r12.xt x (fun _ => rfl)⟩ <;> (simp only [gI_pI, up2]; grind)
theorem RD.thirst {h : AH} {b : Nat} {D : De} (hb : b + 13 < 96) (q : RD h b D) (j : Nat) (v : Int32) : RD (pI h (b + 7) j v) b (up2 D 8 j v) := by
  obtain ⟨r1, r2, r3, r4, r5, r6, r7, r8, r9, r10, r11, r12⟩ := q
  have x : Xt h (pI h (b + 7) j v) := ((Xa.rf h).pI (by omega) _ _).t
  refine ⟨?_, ?_, ?_, ?_, ?_, ?_, ?_, ?_, ?_, ?_, r11.xt x (fun _ => rfl), r12.xt x (fun _ => rfl)⟩ <;> (simp only [gI_pI, up2]; grind)
theorem RD.dead {h : AH} {b : Nat} {D : De} (hb : b + 13 < 96) (q : RD h b D) (j : Nat) (v : Int32) : RD (pI h (b + 8) j v) b (up2 D 9 j v) := by
  obtain ⟨r1, r2, r3, r4, r5, r6, r7, r8, r9, r10, r11, r12⟩ := q
  have x : Xt h (pI h (b + 8) j v) := ((Xa.rf h).pI (by omega) _ _).t
  refine ⟨?_, ?_, ?_, ?_, ?_, ?_, ?_, ?_, ?_, ?_, r11.xt x (fun _ => rfl), r12.xt x (fun _ => rfl)⟩ <;> (simp only [gI_pI, up2]; grind)
theorem RD.tape {h : AH} {b : Nat} {D : De} (hb : b + 13 < 96) (q : RD h b D) (j : Nat) (v : Int32) (hf : fits .byte (.int v) = true) : RD (pI h (b + 10) j v) b (up2 D 10 j (v &&& 255)) := by
  obtain ⟨r1, r2, r3, r4, r5, r6, r7, r8, r9, r10, r11, r12⟩ := q
  have x : Xt h (pI h (b + 10) j v) := ((Xa.rf h).pI (by omega) _ _).t
  refine ⟨?_, ?_, ?_, ?_, ?_, ?_, ?_, ?_, ?_, ?_, r11.xt x (fun _ => rfl), r12.xt x (fun _ => rfl)⟩ <;> (simp only [gI_pI, up2]; grind)
theorem RD.wait {h : AH} {b : Nat} {D : De} (hb : b + 13 < 96) (q : RD h b D) (j : Nat) (v : Int32) : RD (pI h (b + 11) j v) b (up2 D 14 j v) := by
  obtain ⟨r1, r2, r3, r4, r5, r6, r7, r8, r9, r10, r11, r12⟩ := q
  have x : Xt h (pI h (b + 11) j v) := ((Xa.rf h).pI (by omega) _ _).t
  refine ⟨?_, ?_, ?_, ?_, ?_, ?_, ?_, ?_, ?_, ?_, r11.xt x (fun _ => rfl), r12.xt x (fun _ => rfl)⟩ <;> (simp only [gI_pI, up2]; grind)
theorem RS.keep {h h' : AH} {E E' : De} (x : Xa h h') (k8 : ∀ s, s < 4 → gR h' (80 + s) 0 = gR h (80 + s) 0) (q : RS h E) (e4 : E' 4 = E 4 := by rfl) (e5 : E' 5 = E 5 := by rfl) (e6 : E' 6 = E 6 := by rfl) : RS h' E' := by
  refine ⟨fun s hs => ?_, fun s t r hs ht => by rw [k8 s hs, k8 t ht]; exact q.2 s t r hs ht⟩
  unfold Sh
  rw [e4, e5, e6, k8 s hs]
  rcases q.1 s hs with q | ⟨r, n, w, hw, q0, q1, q2, q3, q4, q5, q6, q7, q8, q9⟩
  · exact Or.inl q
  · have y := x.2 r q1 (by omega)
    have z := x.2 (r + 1) (by omega) q2
    refine Or.inr ⟨r, n, w, hw, q0, q1, Nat.lt_of_lt_of_le q2 x.1, by rw [y.1]; exact q3, by rw [(y.2 0).2]; exact q4, q5, by rw [z.1]; exact q6, q7, q8, fun k hk => by rw [(z.2 k).1]; exact q9 k hk⟩
/-- places that hold nothing of what is kept -/
theorem RX.smD {S : List Nat} {h h' : AH} {σ : Sg} {D : De} (p : Sm S h h') (rx : RX h σ) (rd : RD h' 32 D) (hs : ∀ a, a ∈ S → 31 ≤ a ∧ a ≤ 45 ∨ 59 ≤ a ∧ a ≤ 73 ∨ 78 ≤ a ∧ a ≤ 79 := by decide) : RX h' (oD σ D) := by
  obtain ⟨q1, q2, q3, q4, q5, q6, q7⟩ := rx
  have n (a : Nat) (ha : ¬ (31 ≤ a ∧ a ≤ 45 ∨ 59 ≤ a ∧ a ≤ 73 ∨ 78 ≤ a ∧ a ≤ 79)) : ∀ k, gI h' a k = gI h a k := p.2 a (fun z => ha (hs a z))
  have x : Xa h h' := p.xa (fun a z => by have := hs a z; omega)
  refine ⟨rd, ?_, ?_, ?_, ?_, ?_, ?_⟩
  · rcases q2 with q2 | q2
    · exact Or.inl q2
    · exact Or.inr (RD.keep x.t (fun a h1 h2 => n a (by omega)) (fun k => by rw [p.gR]) (fun k => by rw [p.gR]) q2)
  · rw [n 30 (by decide)]; exact q3
  · intro c hc; rw [n 76 (by decide)]; exact q4 c hc
  · rw [n 74 (by decide)]; exact q5
  · intro c hc; rw [n 75 (by decide)]; exact q6 c hc
  · exact q7.keep x (fun s _ => by rw [p.gR])
theorem RX.sm {S : List Nat} {h h' : AH} {σ : Sg} (p : Sm S h h') (rx : RX h σ) (hs : ∀ a, a ∈ S → a = 31 ∨ 44 ≤ a ∧ a ≤ 45 ∨ 59 ≤ a ∧ a ≤ 73 ∨ 78 ≤ a ∧ a ≤ 79 := by decide) : RX h' σ :=
  RX.smD p rx (RD.sm p rx.1 (fun a z => by have := hs a z; omega) (fun a z => by have := hs a z; omega)) (fun a z => by have := hs a z; omega)
theorem RX.err {h : AH} {σ : Sg} {c : Nat} (hc : c < 6) (rx : RX h σ) : RX (xErr h c).2 (aErr σ c).2 := by
  have p : Sm [31, 76] h (xErr h c).2 := ((Sm.rf h).pI 31 _ _).pI 76 _ _
  obtain ⟨q1, q2, q3, q4, q5, q6, q7⟩ := rx
  refine ⟨RD.sm p q1, ?_, ?_, ?_, ?_, ?_, ?_⟩
  · rcases q2 with q2 | q2
    · exact Or.inl q2
    · exact Or.inr (RD.sm p q2)
  · rw [p.2 30 (by decide)]; exact q3
  · intro j hj
    simp only [xErr, aErr, oE, gI_pI, up2]
    have := q4 j hj
    grind
  · rw [p.2 74 (by decide)]; exact q5
  · intro j hj; rw [p.2 75 (by decide)]; exact q6 j hj
  · exact q7.keep p.xa (fun s _ => by rw [p.gR])
