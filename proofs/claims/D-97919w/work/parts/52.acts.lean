/-! ===== the row of the model kept; acts without loops (printed by gen/p52.py) ===== -/
theorem Row.water {h : AH} {a : Nat} {D : De} (q : Row h a D) (j : Nat) (hj : j < 8) (v : Int32) : Row (pI h a (j) v) a (up2 D 0 j v) := by
  obtain ⟨r1, r2, r3, r4, r5, r6, r7, r8, r9⟩ := q
  refine ⟨?_, ?_, ?_, ?_, ?_, ?_, ?_, ?_, ?_⟩ <;> (simp only [gI_pI, up2]; grind)
theorem Row.road {h : AH} {a : Nat} {D : De} (q : Row h a D) (j : Nat) (hj : j < 64) (v : Int32) : Row (pI h a (8 + j) v) a (up2 D 1 j v) := by
  obtain ⟨r1, r2, r3, r4, r5, r6, r7, r8, r9⟩ := q
  refine ⟨?_, ?_, ?_, ?_, ?_, ?_, ?_, ?_, ?_⟩ <;> (simp only [gI_pI, up2]; grind)
theorem Row.owed {h : AH} {a : Nat} {D : De} (q : Row h a D) (j : Nat) (hj : j < 64) (v : Int32) : Row (pI h a (72 + j) v) a (up2 D 2 j v) := by
  obtain ⟨r1, r2, r3, r4, r5, r6, r7, r8, r9⟩ := q
  refine ⟨?_, ?_, ?_, ?_, ?_, ?_, ?_, ?_, ?_⟩ <;> (simp only [gI_pI, up2]; grind)
theorem Row.rain {h : AH} {a : Nat} {D : De} (q : Row h a D) (v : Int32) : Row (pI h a (136) v) a (up2 D 3 0 v) := by
  obtain ⟨r1, r2, r3, r4, r5, r6, r7, r8, r9⟩ := q
  refine ⟨?_, ?_, ?_, ?_, ?_, ?_, ?_, ?_, ?_⟩ <;> (simp only [gI_pI, up2]; grind)
theorem Row.hour {h : AH} {a : Nat} {D : De} (q : Row h a D) (v : Int32) : Row (pI h a (137) v) a (up2 D 3 1 v) := by
  obtain ⟨r1, r2, r3, r4, r5, r6, r7, r8, r9⟩ := q
  refine ⟨?_, ?_, ?_, ?_, ?_, ?_, ?_, ?_, ?_⟩ <;> (simp only [gI_pI, up2]; grind)
theorem Row.day {h : AH} {a : Nat} {D : De} (q : Row h a D) (v : Int32) : Row (pI h a (138) v) a (up2 D 3 2 v) := by
  obtain ⟨r1, r2, r3, r4, r5, r6, r7, r8, r9⟩ := q
  refine ⟨?_, ?_, ?_, ?_, ?_, ?_, ?_, ?_, ?_⟩ <;> (simp only [gI_pI, up2]; grind)
theorem Row.many {h : AH} {a : Nat} {D : De} (q : Row h a D) (v : Int32) : Row (pI h a (139) v) a (up2 D 3 3 v) := by
  obtain ⟨r1, r2, r3, r4, r5, r6, r7, r8, r9⟩ := q
  refine ⟨?_, ?_, ?_, ?_, ?_, ?_, ?_, ?_, ?_⟩ <;> (simp only [gI_pI, up2]; grind)
theorem Row.z {h : AH} {a : Nat} {D : De} (q : Row h a D) (v : Int32) : Row (pI h a (176) v) a (up2 D 3 4 v) := by
  obtain ⟨r1, r2, r3, r4, r5, r6, r7, r8, r9⟩ := q
  refine ⟨?_, ?_, ?_, ?_, ?_, ?_, ?_, ?_, ?_⟩ <;> (simp only [gI_pI, up2]; grind)
theorem Row.taped {h : AH} {a : Nat} {D : De} (q : Row h a D) (v : Int32) : Row (pI h a (177) v) a (up2 D 3 5 v) := by
  obtain ⟨r1, r2, r3, r4, r5, r6, r7, r8, r9⟩ := q
  refine ⟨?_, ?_, ?_, ?_, ?_, ?_, ?_, ?_, ?_⟩ <;> (simp only [gI_pI, up2]; grind)
theorem Row.waits {h : AH} {a : Nat} {D : De} (q : Row h a D) (v : Int32) : Row (pI h a (178) v) a (up2 D 3 6 v) := by
  obtain ⟨r1, r2, r3, r4, r5, r6, r7, r8, r9⟩ := q
  refine ⟨?_, ?_, ?_, ?_, ?_, ?_, ?_, ?_, ?_⟩ <;> (simp only [gI_pI, up2]; grind)
theorem Row.its {h : AH} {a : Nat} {D : De} (q : Row h a D) (j i : Nat) (hj : j < 6) (hi : i < 6) (v : Int32) : Row (pI h a (140 + 6 * j + i) v) a (up2 D (4 + i) j v) := by
  obtain ⟨r1, r2, r3, r4, r5, r6, r7, r8, r9⟩ := q
  refine ⟨?_, ?_, ?_, ?_, ?_, ?_, ?_, ?_, ?_⟩ <;> (simp only [gI_pI, up2]; grind)
theorem Row.long {h : AH} {a : Nat} {D : De} (q : Row h a D) (j : Nat) (hj : j < 2) (v : Int32) : Row (pI h a (179 + j) v) a (up2 D 11 j v) := by
  obtain ⟨r1, r2, r3, r4, r5, r6, r7, r8, r9⟩ := q
  refine ⟨?_, ?_, ?_, ?_, ?_, ?_, ?_, ?_, ?_⟩ <;> (simp only [gI_pI, up2]; grind)
theorem Row.tape {h : AH} {a : Nat} {D : De} (q : Row h a D) (j : Nat) (hj : j < 50) (v : Int32) : Row (pI h a (181 + j) v) a (up2 D 10 j v) := by
  obtain ⟨r1, r2, r3, r4, r5, r6, r7, r8, r9⟩ := q
  refine ⟨?_, ?_, ?_, ?_, ?_, ?_, ?_, ?_, ?_⟩ <;> (simp only [gI_pI, up2]; grind)
theorem Row.text {h : AH} {a : Nat} {D : De} (q : Row h a D) (i j : Nat) (hi : i < 2) (hj : j < 50) (v : Int32) : Row (pI h a (231 + 50 * i + j) v) a (up2 D (12 + i) j v) := by
  obtain ⟨r1, r2, r3, r4, r5, r6, r7, r8, r9⟩ := q
  refine ⟨?_, ?_, ?_, ?_, ?_, ?_, ?_, ?_, ?_⟩ <;> (simp only [gI_pI, up2]; grind)
theorem Row.wait {h : AH} {a : Nat} {D : De} (q : Row h a D) (j : Nat) (hj : j < 20) (v : Int32) : Row (pI h a (331 + j) v) a (up2 D 14 j v) := by
  obtain ⟨r1, r2, r3, r4, r5, r6, r7, r8, r9⟩ := q
  refine ⟨?_, ?_, ?_, ?_, ?_, ?_, ?_, ?_, ?_⟩ <;> (simp only [gI_pI, up2]; grind)
theorem Row.keep {h h' : AH} {a : Nat} {D : De} (e : ∀ k, gI h' a k = gI h a k) (q : Row h a D) : Row h' a D := by
  unfold Row
  simp only [e]
  exact q
theorem RM.smD {S : List Nat} {h h' : AH} {σ : Sg} {D : De} (p : Sm S h h') (rm : RM h σ) (rd : Row h' 85 D) (h4 : gI h' 84 4 = gI h 84 4) (h17 : gI h' 84 17 = gI h 84 17) (hs : ∀ a, a ∈ S → a = 84 ∨ a = 85 ∨ a = 87 ∨ a = 89 ∨ a = 90 ∨ a = 95 := by decide) : RM h' (oD σ D) := by
  obtain ⟨q1, q2, q3, q4, q5, q6, q7, q8, q9⟩ := rm
  have n (a : Nat) (ha : ¬ (a = 84 ∨ a = 85 ∨ a = 87 ∨ a = 89 ∨ a = 90 ∨ a = 95)) : ∀ k, gI h' a k = gI h a k := p.2 a (fun z => ha (hs a z))
  refine ⟨rd, ?_, ?_, ?_, ?_, ?_, ?_, ?_, ?_⟩
  · rcases q2 with q2 | q2
    · exact Or.inl q2
    · exact Or.inr (Row.keep (n 86 (by decide)) q2)
  · rw [h4]; exact q3
  · intro c hc; rw [n 88 (by decide)]; exact q4 c hc
  · rw [h17]; exact q5
  · intro c hc; rw [n 91 (by decide)]; exact q6 c hc
  · intro c hc; rw [n 92 (by decide)]; exact q7 c hc
  · intro c hc; rw [n 93 (by decide)]; exact q8 c hc
  · intro c hc; rw [n 94 (by decide)]; exact q9 c hc
theorem RM.sm {S : List Nat} {h h' : AH} {σ : Sg} (p : Sm S h h') (rm : RM h σ) (h4 : gI h' 84 4 = gI h 84 4) (h17 : gI h' 84 17 = gI h 84 17) (hs : ∀ a, a ∈ S → a = 84 ∨ a = 87 ∨ a = 89 ∨ a = 90 ∨ a = 95 := by decide) : RM h' σ :=
  RM.smD p rm (Row.keep (p.2 85 (fun z => absurd (hs 85 z) (by decide))) rm.1) h4 h17 (fun a z => by have := hs a z; omega)
theorem RM.err {h : AH} {σ : Sg} {c : Nat} (hc : c < 6) (rm : RM h σ) : RM (mErr h c).2 (aErr σ c).2 := by
  have p : Sm [88] h (mErr h c).2 := (Sm.rf h).pI 88 _ _
  obtain ⟨q1, q2, q3, q4, q5, q6, q7, q8, q9⟩ := rm
  have n (a : Nat) (ha : ¬ a ∈ [88]) : ∀ k, gI (mErr h c).2 a k = gI h a k := p.2 a ha
  refine ⟨Row.keep (n 85 (by decide)) q1, ?_, ?_, ?_, ?_, ?_, ?_, ?_, ?_⟩
  · rcases q2 with q2 | q2
    · exact Or.inl q2
    · exact Or.inr (Row.keep (n 86 (by decide)) q2)
  · rw [n 84 (by decide)]; exact q3
  · intro j hj
    simp only [mErr, aErr, oE, gI_pI, up2]
    have := q4 j hj
    grind
  · rw [n 84 (by decide)]; exact q5
  · intro c hc; rw [n 91 (by decide)]; exact q6 c hc
  · intro c hc; rw [n 92 (by decide)]; exact q7 c hc
  · intro c hc; rw [n 93 (by decide)]; exact q8 c hc
  · intro c hc; rw [n 94 (by decide)]; exact q9 c hc
def PX (h h' : AH) (σ : Sg) : Prop := Fx h' ∧ RX h' σ ∧ (∀ a, 84 ≤ a → a ≤ 95 → ∀ k, gI h' a k = gI h a k) ∧ gN h ≤ gN h' ∧ gN h' ≤ gN h + 400 ∧ gZ h' ≤ gZ h + 2000
def PM (h h' : AH) (σ : Sg) : Prop := RM h' σ ∧ Sm [84, 85, 86, 87, 88, 89, 90, 91, 92, 93, 94, 95] h h'
theorem PX.sm {S : List Nat} {h h' : AH} {σ : Sg} (hx : Fx h) (p : Sm S h h') (rx : RX h' σ) (hs : ∀ a, a ∈ S → a < 84 := by decide) : PX h h' σ := by
  refine ⟨hx.sm p, rx, fun a h1 h2 => p.2 a (fun z => absurd (hs a z) (by omega)), ?_, ?_, ?_⟩
  · rw [p.gN]; exact Nat.le_refl _
  · rw [p.gN]; exact Nat.le_add_right _ _
  · rw [p.gZ]; exact Nat.le_add_right _ _
theorem PX.err {h : AH} {σ : Sg} {c : Nat} (hc : c < 6) (hx : Fx h) (rx : RX h σ) : PX h (xErr h c).2 (aErr σ c).2 :=
  PX.sm (S := [31, 76]) hx (((Sm.rf h).pI 31 _ _).pI 76 _ _) (rx.err hc)
theorem PM.err {h : AH} {σ : Sg} {c : Nat} (hc : c < 6) (rm : RM h σ) : PM h (mErr h c).2 (aErr σ c).2 := ⟨rm.err hc, (Sm.rf h).pI 88 _ _⟩
theorem up_ex {n : Nat} {x : Int32} (h : upto n x) : ∃ j : Nat, j ≤ n ∧ x = nI j := h
theorem up_tn {n : Nat} {x : Int32} (h : upto n x) (hn : n < 2 ^ 31 := by decide) : tn x ≤ n ∧ x = nI (tn x) := by
  obtain ⟨j, hj, rfl⟩ := h
  rw [tn_nI (by omega)]
  exact ⟨hj, rfl⟩
theorem in_tn {w M : Int32} {n : Nat} (h : 0 ≤ w ∧ w ≤ M) (hM : M.toInt = n) (hn : n < 2 ^ 31 := by decide) : tn w ≤ n ∧ w = nI (tn w) := up_tn (nI_ex h hM) hn
def aWater (σ : Sg) (w v : Int32) : Int32 × Sg := if (0 ≤ w ∧ w ≤ 7) ∧ 0 ≤ v ∧ v ≤ 99 then (σ.1 0 (tn w), oD σ (up2 σ.1 0 (tn w) v)) else aErr σ 1
def aRoad (σ : Sg) (a b v : Int32) : Int32 × Sg := if ((0 ≤ a ∧ a ≤ 7) ∧ (0 ≤ b ∧ b ≤ 7) ∧ a ≠ b) ∧ 0 ≤ v ∧ v ≤ 20 then (σ.1 1 (8 * tn a + tn b), oD σ (up2 (up2 σ.1 1 (8 * tn a + tn b) v) 1 (8 * tn b + tn a) v)) else aErr σ 1
def aOwe (σ : Sg) (a b v : Int32) : Int32 × Sg := if ((0 ≤ a ∧ a ≤ 7) ∧ (0 ≤ b ∧ b ≤ 7) ∧ a ≠ b) ∧ 0 ≤ v ∧ v ≤ 9999 then (σ.1 2 (8 * tn a + tn b), oD σ (up2 σ.1 2 (8 * tn a + tn b) v)) else aErr σ 1
def aRain (σ : Sg) (v : Int32) : Int32 × Sg := if 0 ≤ v ∧ v ≤ 9 then (σ.1 3 0, oD σ (up2 σ.1 3 0 v)) else aErr σ 1
def aSeed (σ : Sg) (v : Int32) : Int32 × Sg := (σ.1 3 4, oD σ (up2 σ.1 3 4 v))
def aTold (σ : Sg) (k : Int32) : Int32 × Sg := if 1 ≤ k ∧ k ≤ 5 then (σ.2.2 1 (tn k), σ) else aErr σ 1
def aTrace (σ : Sg) (i : Int32) : Int32 × Sg := if 0 ≤ i ∧ i ≤ σ.2.2 2 0 - 1 then (σ.2.2 3 (tn i), σ) else aErr σ 2
def aTell (σ : Sg) (v : Int32) : Int32 × Sg := if σ.1 3 6 < 20 then (σ.1 3 6 + 1, oD σ (up2 (up2 σ.1 14 (tn (σ.1 3 6)) v) 3 6 (σ.1 3 6 + 1))) else aErr σ 4
theorem ends {g : Gl} {d : Nat} {M : MI} {av : List Value} {h : AH} {p : Int32 × AH} {v : Int32} {P : AH → Prop} (k : AM g d M av h (rI p.1 p.2)) (hd : d ≤ 200) (e : p.1 = v) (hp : P p.2) : AM g 200 M av h (eI v P) := by
  refine AM.mono (k.deep hd) (fun o h' q => ?_)
  obtain ⟨e1, e2⟩ := q
  subst e2
  exact ⟨by rw [e1, e], hp⟩
theorem x_water {g : Gl} {h : AH} {n : Nat} {σ : Sg} (hx : Fx h) (wf : Wf n σ) (rx : RX h σ) (w v : Int32) : AM g 200 mX0_water [.ref 30, .int w, .int v] h (eI (aWater σ w v).1 (fun h2 => PX h h2 (aWater σ w v).2)) := by
  refine ends (c_xWater hx w v) (by decide) ?_ ?_ <;> unfold xWater aWater <;> split
  · rename_i c; exact rx.1.1 _ (by have := in_tn c.1 (n := 7) rfl; omega)
  · rfl
  · exact PX.sm (S := [33]) hx ((Sm.rf h).pI 33 _ _) (rx.smD (S := [33]) ((Sm.rf h).pI 33 _ _) (RD.water (by decide) rx.1 _ _))
  · exact PX.err (by decide) hx rx
theorem m_water {g : Gl} {h : AH} {n : Nat} {σ : Sg} (hx : Fx h) (wf : Wf n σ) (rm : RM h σ) (w v : Int32) : AM g 200 mX6_water [.ref 84, .int w, .int v] h (eI (aWater σ w v).1 (fun h2 => PM h h2 (aWater σ w v).2)) := by
  refine ends (c_mWater hx w v) (by decide) ?_ ?_ <;> unfold mWater aWater <;> split
  · rename_i c; exact rm.1.1 _ (by have := in_tn c.1 (n := 7) rfl; omega)
  · rfl
  · rename_i c; exact ⟨rm.smD (S := [85]) ((Sm.rf h).pI 85 _ _) (Row.water rm.1 _ (by have := in_tn c.1 (n := 7) rfl; omega) _) rfl rfl, (Sm.rf h).pI 85 _ _⟩
  · exact PM.err (by decide) rm
theorem x_road {g : Gl} {h : AH} {n : Nat} {σ : Sg} (hx : Fx h) (wf : Wf n σ) (rx : RX h σ) (a b v : Int32) : AM g 200 mX0_road [.ref 30, .int a, .int b, .int v] h (eI (aRoad σ a b v).1 (fun h2 => PX h h2 (aRoad σ a b v).2)) := by
  refine ends (c_xRoad hx a b v) (by decide) ?_ ?_ <;> unfold xRoad aRoad <;> split
  · rename_i c
    have h1 := in_tn c.1.1 (n := 7) rfl
    have h2 := in_tn c.1.2.1 (n := 7) rfl
    exact rx.1.2.1 _ (by omega)
  · rfl
  · exact PX.sm (S := [34]) hx (((Sm.rf h).pI 34 _ _).pI 34 _ _) (rx.smD (S := [34]) (((Sm.rf h).pI 34 _ _).pI 34 _ _) (RD.road (by decide) (RD.road (by decide) rx.1 _ _) _ _))
  · exact PX.err (by decide) hx rx
theorem m_road {g : Gl} {h : AH} {n : Nat} {σ : Sg} (hx : Fx h) (wf : Wf n σ) (rm : RM h σ) (a b v : Int32) : AM g 200 mX6_road [.ref 84, .int a, .int b, .int v] h (eI (aRoad σ a b v).1 (fun h2 => PM h h2 (aRoad σ a b v).2)) := by
  refine ends (c_mRoad hx a b v) (by decide) ?_ ?_ <;> unfold mRoad aRoad <;> split
  · rename_i c
    have h1 := in_tn c.1.1 (n := 7) rfl
    have h2 := in_tn c.1.2.1 (n := 7) rfl
    have h3 : tn a ≠ tn b := fun e => c.1.2.2 (by rw [h1.2, h2.2, e])
    rw [gI_pI, if_pos rfl, if_neg (by omega), Nat.add_assoc]
    exact rm.1.2.1 _ (by omega)
  · rfl
  · rename_i c
    have h1 := in_tn c.1.1 (n := 7) rfl
    have h2 := in_tn c.1.2.1 (n := 7) rfl
    have h3 : tn a ≠ tn b := fun e => c.1.2.2 (by rw [h1.2, h2.2, e])
    have q := Row.road (Row.road rm.1 (8 * tn b + tn a) (by omega) v) (8 * tn a + tn b) (by omega) v
    rw [← Nat.add_assoc, ← Nat.add_assoc] at q
    have e : up2 (up2 σ.1 1 (8 * tn b + tn a) v) 1 (8 * tn a + tn b) v = up2 (up2 σ.1 1 (8 * tn a + tn b) v) 1 (8 * tn b + tn a) v := by
      funext i j
      simp only [up2]
      grind
    rw [e] at q
    exact ⟨rm.smD (S := [85]) (((Sm.rf h).pI 85 _ _).pI 85 _ _) q rfl rfl, ((Sm.rf h).pI 85 _ _).pI 85 _ _⟩
  · exact PM.err (by decide) rm
theorem x_owe {g : Gl} {h : AH} {n : Nat} {σ : Sg} (hx : Fx h) (wf : Wf n σ) (rx : RX h σ) (a b v : Int32) : AM g 200 mX0_owe [.ref 30, .int a, .int b, .int v] h (eI (aOwe σ a b v).1 (fun h2 => PX h h2 (aOwe σ a b v).2)) := by
  refine ends (c_xOwe hx a b v) (by decide) ?_ ?_ <;> unfold xOwe aOwe <;> split
  · rename_i c
    have h1 := in_tn c.1.1 (n := 7) rfl
    have h2 := in_tn c.1.2.1 (n := 7) rfl
    exact rx.1.2.2.1 _ (by omega)
  · rfl
  · exact PX.sm (S := [35]) hx ((Sm.rf h).pI 35 _ _) (rx.smD (S := [35]) ((Sm.rf h).pI 35 _ _) (RD.owed (by decide) rx.1 _ _))
  · exact PX.err (by decide) hx rx
theorem m_owe {g : Gl} {h : AH} {n : Nat} {σ : Sg} (hx : Fx h) (wf : Wf n σ) (rm : RM h σ) (a b v : Int32) : AM g 200 mX6_owe [.ref 84, .int a, .int b, .int v] h (eI (aOwe σ a b v).1 (fun h2 => PM h h2 (aOwe σ a b v).2)) := by
  refine ends (c_mOwe hx a b v) (by decide) ?_ ?_ <;> unfold mOwe aOwe <;> split
  · rename_i c
    have h1 := in_tn c.1.1 (n := 7) rfl
    have h2 := in_tn c.1.2.1 (n := 7) rfl
    rw [Nat.add_assoc]
    exact rm.1.2.2.1 _ (by omega)
  · rfl
  · rename_i c
    have h1 := in_tn c.1.1 (n := 7) rfl
    have h2 := in_tn c.1.2.1 (n := 7) rfl
    have q := Row.owed rm.1 (8 * tn a + tn b) (by omega) v
    rw [← Nat.add_assoc] at q
    exact ⟨rm.smD (S := [85]) ((Sm.rf h).pI 85 _ _) q rfl rfl, (Sm.rf h).pI 85 _ _⟩
  · exact PM.err (by decide) rm
theorem x_rain {g : Gl} {h : AH} {n : Nat} {σ : Sg} (hx : Fx h) (wf : Wf n σ) (rx : RX h σ) (v : Int32) : AM g 200 mX0_rain [.ref 30, .int v] h (eI (aRain σ v).1 (fun h2 => PX h h2 (aRain σ v).2)) := by
  refine ends (c_xRain hx v) (by decide) ?_ ?_ <;> unfold xRain aRain <;> split
  · exact rx.1.2.2.2.1.1
  · rfl
  · exact PX.sm (S := [32]) hx ((Sm.rf h).pI 32 _ _) (rx.smD (S := [32]) ((Sm.rf h).pI 32 _ _) (RD.rain (by decide) rx.1 _))
  · exact PX.err (by decide) hx rx
theorem m_rain {g : Gl} {h : AH} {n : Nat} {σ : Sg} (hx : Fx h) (wf : Wf n σ) (rm : RM h σ) (v : Int32) : AM g 200 mX6_rain [.ref 84, .int v] h (eI (aRain σ v).1 (fun h2 => PM h h2 (aRain σ v).2)) := by
  refine ends (c_mRain hx v) (by decide) ?_ ?_ <;> unfold mRain aRain <;> split
  · exact rm.1.2.2.2.1.1
  · rfl
  · exact ⟨rm.smD (S := [85]) ((Sm.rf h).pI 85 _ _) (Row.rain rm.1 _) rfl rfl, (Sm.rf h).pI 85 _ _⟩
  · exact PM.err (by decide) rm
theorem x_seed {g : Gl} {h : AH} {n : Nat} {σ : Sg} (hx : Fx h) (wf : Wf n σ) (rx : RX h σ) (v : Int32) : AM g 200 mX0_seed [.ref 30, .int v] h (eI (aSeed σ v).1 (fun h2 => PX h h2 (aSeed σ v).2)) := by
  refine ends (c_xSeed hx v) (by decide) ?_ ?_ <;> unfold xSeed aSeed
  · exact rx.1.2.2.2.1.2.2.2.2.1
  · exact PX.sm (S := [32]) hx ((Sm.rf h).pI 32 _ _) (rx.smD (S := [32]) ((Sm.rf h).pI 32 _ _) (RD.z (by decide) rx.1 _))
theorem m_seed {g : Gl} {h : AH} {n : Nat} {σ : Sg} (hx : Fx h) (wf : Wf n σ) (rm : RM h σ) (v : Int32) : AM g 200 mX6_seed [.ref 84, .int v] h (eI (aSeed σ v).1 (fun h2 => PM h h2 (aSeed σ v).2)) := by
  refine ends (c_mSeed hx v) (by decide) ?_ ?_ <;> unfold mSeed aSeed
  · exact rm.1.2.2.2.1.2.2.2.2.1
  · exact ⟨rm.smD (S := [85]) ((Sm.rf h).pI 85 _ _) (Row.z rm.1 _) rfl rfl, (Sm.rf h).pI 85 _ _⟩
theorem x_told {g : Gl} {h : AH} {n : Nat} {σ : Sg} (hx : Fx h) (wf : Wf n σ) (rx : RX h σ) (k : Int32) : AM g 200 mX0_told [.ref 30, .int k] h (eI (aTold σ k).1 (fun h2 => PX h h2 (aTold σ k).2)) := by
  refine ends (c_xTold hx k) (by decide) ?_ ?_ <;> unfold xTold aTold <;> split
  · rename_i c
    have h1 := in_tn (w := k) (M := 5) ⟨by grind, c.2⟩ (n := 5) rfl
    exact rx.2.2.2.1 _ (by omega)
  · rfl
  · exact PX.sm (S := []) hx (Sm.rf h) rx
  · exact PX.err (by decide) hx rx
theorem m_told {g : Gl} {h : AH} {n : Nat} {σ : Sg} (hx : Fx h) (wf : Wf n σ) (rm : RM h σ) (k : Int32) : AM g 200 mX6_told [.ref 84, .int k] h (eI (aTold σ k).1 (fun h2 => PM h h2 (aTold σ k).2)) := by
  refine ends (c_mTold hx k) (by decide) ?_ ?_ <;> unfold mTold aTold <;> split
  · rename_i c
    have h1 := in_tn (w := k) (M := 5) ⟨by grind, c.2⟩ (n := 5) rfl
    exact rm.2.2.2.1 _ (by omega)
  · rfl
  · exact ⟨rm, Sm.rf h⟩
  · exact PM.err (by decide) rm
theorem x_trace {g : Gl} {h : AH} {n : Nat} {σ : Sg} (hx : Fx h) (wf : Wf n σ) (rx : RX h σ) (i : Int32) : AM g 200 mX0_trace [.ref 30, .int i] h (eI (aTrace σ i).1 (fun h2 => PX h h2 (aTrace σ i).2)) := by
  have hm : ∃ n : Nat, n ≤ 40 ∧ gI h 74 1 = nI n := by rw [rx.2.2.2.2.1]; exact wf.2.2.2
  refine ends (c_xTrace hx i hm) (by decide) ?_ ?_ <;> unfold xTrace aTrace <;> rw [rx.2.2.2.2.1] <;> split
  · rename_i c
    obtain ⟨j, hj, rfl⟩ := nI_lt1 wf.2.2.2 c
    exact rx.2.2.2.2.2.1 _ (by rw [tn_nI (by omega)]; exact hj)
  · rfl
  · exact PX.sm (S := []) hx (Sm.rf h) rx
  · exact PX.err (by decide) hx rx
theorem m_trace {g : Gl} {h : AH} {n : Nat} {σ : Sg} (hx : Fx h) (wf : Wf n σ) (rm : RM h σ) (i : Int32) : AM g 200 mX6_trace [.ref 84, .int i] h (eI (aTrace σ i).1 (fun h2 => PM h h2 (aTrace σ i).2)) := by
  have hm : ∃ n : Nat, n ≤ 40 ∧ gI h 84 17 = nI n := by rw [rm.2.2.2.2.1]; exact wf.2.2.2
  refine ends (c_mTrace hx i hm) (by decide) ?_ ?_ <;> unfold mTrace aTrace <;> rw [rm.2.2.2.2.1] <;> split
  · rename_i c
    obtain ⟨j, hj, rfl⟩ := nI_lt1 wf.2.2.2 c
    exact rm.2.2.2.2.2.1 _ (by rw [tn_nI (by omega)]; exact hj)
  · rfl
  · exact ⟨rm, Sm.rf h⟩
  · exact PM.err (by decide) rm
theorem x_tell {g : Gl} {h : AH} {n : Nat} {σ : Sg} (hx : Fx h) (wf : Wf n σ) (rx : RX h σ) (v : Int32) : AM g 200 mX0_tell [.ref 30, .int v] h (eI (aTell σ v).1 (fun h2 => PX h h2 (aTell σ v).2)) := by
  obtain ⟨m, hm, e⟩ := wf.1.2.2.2.1.2.2.2.2.2
  have e2 : gI h 32 17 = σ.1 3 6 := rx.1.2.2.2.1.2.2.2.2.2.2
  refine ends (c_xTell hx v m hm (e2.trans e)) (by decide) ?_ ?_ <;> unfold xTell aTell <;> rw [e2] <;> split
  · rfl
  · rfl
  · exact PX.sm (S := [43, 32]) hx (((Sm.rf h).pI 43 _ _).pI 32 _ _) (rx.smD (S := [43, 32]) (((Sm.rf h).pI 43 _ _).pI 32 _ _) (RD.waits (by decide) (RD.wait (by decide) rx.1 _ _) _))
  · exact PX.err (by decide) hx rx
theorem m_tell {g : Gl} {h : AH} {n : Nat} {σ : Sg} (hx : Fx h) (wf : Wf n σ) (rm : RM h σ) (v : Int32) : AM g 200 mX6_tell [.ref 84, .int v] h (eI (aTell σ v).1 (fun h2 => PM h h2 (aTell σ v).2)) := by
  obtain ⟨m, hm, e⟩ := wf.1.2.2.2.1.2.2.2.2.2
  have e2 : gI h 85 178 = σ.1 3 6 := rm.1.2.2.2.1.2.2.2.2.2.2
  have ec : σ.1 3 6 < 20 ↔ ¬ σ.1 3 6 = 20 := by
    rw [e, show (20 : Int32) = nI 20 from rfl, nI_ltI (by omega) (by omega), nI_eq (by omega) (by omega)]
    omega
  refine ends (c_mTell hx v m hm (e2.trans e)) (by decide) ?_ ?_ <;> unfold mTell aTell <;> rw [e2] <;> simp only [ec, ite_not] <;> split
  · rfl
  · rfl
  · exact PM.err (by decide) rm
  · rename_i c
    have hl : tn (σ.1 3 6) < 20 := by
      rw [e, tn_nI (by omega)]
      rcases Nat.lt_or_ge m 20 with q | q
      · exact q
      · exact absurd (by rw [e, show m = 20 by omega]; rfl) c
    exact ⟨rm.smD (S := [85]) (((Sm.rf h).pI 85 _ _).pI 85 _ _) (Row.waits (Row.wait rm.1 _ hl _) _) rfl rfl, ((Sm.rf h).pI 85 _ _).pI 85 _ _⟩
