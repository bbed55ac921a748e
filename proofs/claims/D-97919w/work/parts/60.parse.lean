/-! ===== texts, pure: how far one reads; only the use's names matter ===== -/
def Dep (u : Nat) (v : Vf) : Prop := ∀ F G : Nat → Int32, (∀ k : Nat, isNm u (nI k) → k < 128 → F k = G k) → v F = v G
def Gd (n u a : Nat) (r : Pr) : Prop := a ≤ r.1 ∧ r.1 ≤ n ∧ ∀ v, r.2 = some v → a < r.1 ∧ Dep u v
theorem pHere_lt {f : Nat → Int32} {n a : Nat} (h : ¬ pHere f n a = -1) : a < n := by
  unfold pHere at h
  split at h
  · assumption
  · exact absurd rfl h
theorem pDig_ge (f : Nat → Int32) (n : Nat) : ∀ (k a : Nat) (v : Int32), a ≤ n → a ≤ (pDig f n k a v).1 ∧ (pDig f n k a v).1 ≤ n
  | 0, a, v, h => ⟨Nat.le_refl _, h⟩
  | k + 1, a, v, h => by
    unfold pDig
    split
    · rename_i c
      have hl := pHere_lt (f := f) (n := n) (a := a) (fun e => by rw [e] at c; exact absurd c.1 (by decide))
      have q := pDig_ge f n k (a + 1) (10 * v + pHere f n a - 48) hl
      exact ⟨by omega, q.2⟩
    · exact ⟨Nat.le_refl _, h⟩
theorem pLoop_gd {f : Nat → Int32} {n u : Nat} {nx : Nat → Pr} {op : List Int32} (ho : ¬ (-1 : Int32) ∈ op) (hn : ∀ a, a ≤ n → Gd n u a (nx a)) : ∀ (k a : Nat) (r : Pr), Gd n u a r → Gd n u a (pLoop f n nx op k r)
  | 0, a, r, h => h
  | k + 1, a, r, h => by
    obtain ⟨at_, ov⟩ := r
    cases ov with
    | none => exact h
    | some v =>
      unfold pLoop
      simp only
      split
      · rename_i c
        have hl : at_ < n := pHere_lt (f := f) (fun e => ho (by rw [← e]; exact c))
        have q := hn (at_ + 1) hl
        have hv := h.2.2 v rfl
        split
        · rename_i e
          exact ⟨by have := q.1; have := h.1; simp only at *; omega, q.2.1, fun w e2 => by rw [e] at e2; cases e2⟩
        · rename_i w e
          refine pLoop_gd ho hn k a _ ⟨by have := q.1; have := h.1; simp only at *; omega, q.2.1, fun z e2 => ?_⟩
          cases e2
          refine ⟨by have := q.1; have := h.1; simp only at *; omega, fun F G hF => ?_⟩
          have e1 := hv.2 F G hF
          have e2 := (q.2.2 w e).2 F G hF
          simp only [e1, e2]
      · exact h
theorem pProd_gd {f : Nat → Int32} {n u : Nat} {S : Nat → Pr} (h : ∀ a, a ≤ n → Gd n u a (S a)) (a : Nat) (ha : a ≤ n) : Gd n u a (pProd f n S a) := pLoop_gd (by decide) h _ _ _ (h a ha)
theorem pSum_gd {f : Nat → Int32} {n u : Nat} {S : Nat → Pr} (h : ∀ a, a ≤ n → Gd n u a (S a)) (a : Nat) (ha : a ≤ n) : Gd n u a (pSum f n S a) := pLoop_gd (by decide) (pProd_gd h) _ _ _ (pProd_gd h a ha)
theorem pTest_gd {f : Nat → Int32} {n u : Nat} {S : Nat → Pr} (h : ∀ a, a ≤ n → Gd n u a (S a)) (a : Nat) (ha : a ≤ n) : Gd n u a (pTest f n S a) := pLoop_gd (by decide) (pSum_gd h) _ _ _ (pSum_gd h a ha)
theorem pBoth_gd {f : Nat → Int32} {n u : Nat} {S : Nat → Pr} (h : ∀ a, a ≤ n → Gd n u a (S a)) (a : Nat) (ha : a ≤ n) : Gd n u a (pBoth f n S a) := pLoop_gd (by decide) (pTest_gd h) _ _ _ (pTest_gd h a ha)
theorem pAny_gd {f : Nat → Int32} {n u : Nat} {S : Nat → Pr} (h : ∀ a, a ≤ n → Gd n u a (S a)) (a : Nat) (ha : a ≤ n) : Gd n u a (pAny f n S a) := pLoop_gd (by decide) (pBoth_gd h) _ _ _ (pBoth_gd h a ha)
theorem isNm_tn {u : Nat} {c : Int32} (h : isNm u c) : tn c < 128 ∧ nI (tn c) = c := by
  unfold isNm at h
  rcases h with ⟨-, rfl | rfl | rfl⟩ | ⟨-, rfl | rfl | rfl⟩ <;> decide
theorem pSng_gd (f : Nat → Int32) (n u : Nat) : ∀ (k a : Nat), a ≤ n → Gd n u a (pSng f n u k a) := by
  intro k
  induction k with
  | zero =>
    intro a ha
    unfold pSng
    split
    · rename_i c
      have hl := pHere_lt (f := f) (n := n) (a := a) (fun e => by rw [e] at c; exact absurd c.1 (by decide))
      have q := pDig_ge f n 3 (a + 1) (10 * 0 + pHere f n a - 48) hl
      have e : pDig f n 4 a 0 = pDig f n 3 (a + 1) (10 * 0 + pHere f n a - 48) := by
        show (if _ then _ else _) = _
        rw [if_pos c]
      rw [e]
      exact ⟨by simp only; omega, q.2, fun v hv => ⟨by simp only; omega, by cases hv; exact fun _ _ _ => rfl⟩⟩
    · split
      · rename_i c
        have hl := pHere_lt (f := f) (n := n) (a := a) (fun e => by rw [e] at c; exact absurd c (by unfold isNm; rintro (⟨-, h | h | h⟩ | ⟨-, h | h | h⟩) <;> exact absurd h (by decide)))
        refine ⟨by simp only; omega, hl, fun v hv => ⟨by simp only; omega, ?_⟩⟩
        cases hv
        intro F G hF
        have := isNm_tn c
        exact hF _ (by rw [this.2]; exact c) this.1
      · exact ⟨Nat.le_refl _, ha, fun v hv => by cases hv⟩
  | succ k ih =>
    intro a ha
    unfold pSng
    split
    · rename_i c
      have hl := pHere_lt (f := f) (n := n) (a := a) (fun e => by rw [e] at c; exact absurd c.1 (by decide))
      have q := pDig_ge f n 3 (a + 1) (10 * 0 + pHere f n a - 48) hl
      have e : pDig f n 4 a 0 = pDig f n 3 (a + 1) (10 * 0 + pHere f n a - 48) := by
        show (if _ then _ else _) = _
        rw [if_pos c]
      rw [e]
      exact ⟨by simp only; omega, q.2, fun v hv => ⟨by simp only; omega, by cases hv; exact fun _ _ _ => rfl⟩⟩
    · split
      · rename_i c
        have hl := pHere_lt (f := f) (n := n) (a := a) (fun e => by rw [e] at c; exact absurd c (by unfold isNm; rintro (⟨-, h | h | h⟩ | ⟨-, h | h | h⟩) <;> exact absurd h (by decide)))
        refine ⟨by simp only; omega, hl, fun v hv => ⟨by simp only; omega, ?_⟩⟩
        cases hv
        intro F G hF
        have := isNm_tn c
        exact hF _ (by rw [this.2]; exact c) this.1
      · simp only
        split
        · rename_i c
          have hl := pHere_lt (f := f) (n := n) (a := a) (fun e => by rw [e] at c; exact absurd c (by decide))
          have q := ih (a + 1) hl
          split
          · rename_i e
            exact ⟨by have := q.1; omega, q.2.1, fun v hv => by rw [e] at hv; cases hv⟩
          · rename_i v e
            refine ⟨by have := q.1; simp only; omega, q.2.1, fun w hw => ⟨by have := q.1; simp only; omega, ?_⟩⟩
            cases hw
            intro F G hF
            have e1 := (q.2.2 v e).2 F G hF
            simp only [e1]
        · split
          · rename_i c
            have hl := pHere_lt (f := f) (n := n) (a := a) (fun e => by rw [e] at c; exact absurd c (by decide))
            have q := pAny_gd (f := f) ih (a + 1) hl
            split
            · rename_i e
              exact ⟨by have := q.1; omega, q.2.1, fun v hv => by rw [e] at hv; cases hv⟩
            · rename_i v e
              split
              · rename_i c2
                have hl2 := pHere_lt (f := f) (n := n) (fun e => by rw [e] at c2; exact absurd c2 (by decide))
                refine ⟨by have := q.1; simp only; omega, hl2, fun w hw => ⟨by have := q.1; simp only; omega, ?_⟩⟩
                cases hw
                exact (q.2.2 v e).2
              · exact ⟨by have := q.1; simp only; omega, q.2.1, fun v hv => by cases hv⟩
          · exact ⟨Nat.le_refl _, ha, fun v hv => by cases hv⟩
theorem pTxt_gd (f : Nat → Int32) (n u : Nat) : (pTxt f n u).1 ≤ n ∧ ∀ v, (pTxt f n u).2 = some v → Dep u v := by
  have q := pAny_gd (f := f) (pSng_gd f n u 5) 0 (Nat.zero_le n)
  unfold pTxt
  split
  · rename_i e
    exact ⟨q.2.1, fun v hv => by rw [e] at hv; cases hv⟩
  · rename_i v e
    split
    · exact ⟨Nat.le_refl _, fun w hw => by cases hw; exact (q.2.2 v e).2⟩
    · exact ⟨q.2.1, fun w hw => by cases hw⟩
/-- what a text gives -/
def txt (D : De) (u : Nat) (F : Nat → Int32) : Int32 := match (pTxt (D (12 + u)) (tn (D 11 u)) u).2 with
  | none => 0
  | some v => v F
def hld (v : Int32) : Int32 := if v < 0 then 0 else if 99 < v then 99 else v
def needed (D : De) (m t d : Int32) : Int32 := hld (if D 11 0 < 0 then 1 + t / 4 else txt D 0 (fct 0 m t d))
def parch (D : De) (l m d : Int32) : Int32 := hld (if D 11 1 < 0 then l else txt D 1 (fct 1 l m d))
def limOf (κ m : Int32) : Int32 := if κ = 1 ∨ κ = 4 then 12 + m else if κ = 2 then 8 else if κ = 3 ∨ κ = 6 then 36 else if κ = 5 then 8 + m / 2 else 12
def needsOf (D : De) (κ m t : Int32) : Int32 := if κ = 3 then needed D m t (D 3 2) else if κ = 6 then needed D m t (D 3 2) + m else 1
def calledOf (κ w o hr : Int32) : Int32 := if κ = 4 then (if o < 0 then w else o) else if κ = 3 ∨ κ = 6 then (if hr - hr / 2 * 2 = 0 then w else o) else if κ = 5 then (if o = w then -1 else w) else w
theorem hld_upto (v : Int32) : upto 99 (hld v) := by
  unfold hld
  split
  · exact ⟨0, by decide, rfl⟩
  · split
    · exact ⟨99, by decide, rfl⟩
    · rename_i a b
      exact nI_of2 (M := 99) (n := 99) rfl a (Int32.not_lt.mp b)
