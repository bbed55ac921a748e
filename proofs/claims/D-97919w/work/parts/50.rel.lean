/-! ===== what both classes hold, pure: D (a desert) by (what, where); D 0 water, 1 roads, 2 owed, 3 (rain, hour, day, people, seed, taped, waits), 4 kind, 5 m, 6 at, 7 name, 8 thirst, 9 dead, 10 tape, 11 long, 12 13 texts, 14 waiting; E: 0 images, 1 errors, 2 bodies, 3 trace, 4 bits, 5 sizes, 6 numbers ===== -/
abbrev De : Type := Nat → Nat → Int32
abbrev Sg : Type := De × De × De
/-- texts, pure: a place and what is read (none: no text) -/
abbrev Vf : Type := (Nat → Int32) → Int32
abbrev Pr : Type := Nat × Option Vf
def pHere (f : Nat → Int32) (n at_ : Nat) : Int32 := if at_ < n then f at_ else -1
def pDig (f : Nat → Int32) (n : Nat) : Nat → Nat → Int32 → Nat × Int32
  | 0, a, v => (a, v)
  | k + 1, a, v => if 48 ≤ pHere f n a ∧ pHere f n a ≤ 57 then pDig f n k (a + 1) (10 * v + pHere f n a - 48) else (a, v)
abbrev isNm (u : Nat) (c : Int32) : Prop := (u = 0 ∧ (c = 109 ∨ c = 116 ∨ c = 100)) ∨ (u ≠ 0 ∧ (c = 108 ∨ c = 109 ∨ c = 100))
def two (c x y : Int32) : Int32 :=
  if c = 43 then x + y else if c = 45 then x - y else if c = 42 then x * y else if c = 47 then (if y = 0 then 0 else x / y) else if c = 37 then (if y = 0 then 0 else x - x / y * y)
  else if c = 60 then bI (x < y) else if c = 61 then bI (x = y) else if c = 62 then bI (y < x) else if c = 38 then bI (¬ x = 0 ∧ ¬ y = 0) else bI (¬ x = 0 ∨ ¬ y = 0)
def pLoop (f : Nat → Int32) (n : Nat) (nx : Nat → Pr) (op : List Int32) : Nat → Pr → Pr
  | 0, r => r
  | k + 1, r => match r.2 with
    | none => r
    | some v => if pHere f n r.1 ∈ op then (match (nx (r.1 + 1)).2 with
        | none => nx (r.1 + 1)
        | some w => pLoop f n nx op k ((nx (r.1 + 1)).1, some (fun F => two (pHere f n r.1) (v F) (w F))))
      else r
def pProd (f : Nat → Int32) (n : Nat) (S : Nat → Pr) (a : Nat) : Pr := pLoop f n S [42, 47, 37] (n + 1) (S a)
def pSum (f : Nat → Int32) (n : Nat) (S : Nat → Pr) (a : Nat) : Pr := pLoop f n (pProd f n S) [43, 45] (n + 1) (pProd f n S a)
def pTest (f : Nat → Int32) (n : Nat) (S : Nat → Pr) (a : Nat) : Pr := pLoop f n (pSum f n S) [60, 61, 62] 1 (pSum f n S a)
def pBoth (f : Nat → Int32) (n : Nat) (S : Nat → Pr) (a : Nat) : Pr := pLoop f n (pTest f n S) [38] (n + 1) (pTest f n S a)
def pAny (f : Nat → Int32) (n : Nat) (S : Nat → Pr) (a : Nat) : Pr := pLoop f n (pBoth f n S) [124] (n + 1) (pBoth f n S a)
def pSng (f : Nat → Int32) (n u : Nat) : Nat → Nat → Pr
  | k, a => if 48 ≤ pHere f n a ∧ pHere f n a ≤ 57 then ((pDig f n 4 a 0).1, some (fun _ => (pDig f n 4 a 0).2))
    else if isNm u (pHere f n a) then (a + 1, some (fun F => F (tn (pHere f n a))))
    else match k with
      | 0 => (a, none)
      | k + 1 =>
        if pHere f n a = 33 then (match (pSng f n u k (a + 1)).2 with
          | none => pSng f n u k (a + 1)
          | some v => ((pSng f n u k (a + 1)).1, some (fun F => bI (v F = 0))))
        else if pHere f n a = 40 then (match (pAny f n (pSng f n u k) (a + 1)).2 with
          | none => pAny f n (pSng f n u k) (a + 1)
          | some v => if pHere f n (pAny f n (pSng f n u k) (a + 1)).1 = 41 then ((pAny f n (pSng f n u k) (a + 1)).1 + 1, some v) else ((pAny f n (pSng f n u k) (a + 1)).1, none))
        else (a, none)
/-- a whole text -/
def pTxt (f : Nat → Int32) (n u : Nat) : Pr :=
  match (pAny f n (pSng f n u 5) 0).2 with
  | none => pAny f n (pSng f n u 5) 0
  | some v => if (pAny f n (pSng f n u 5) 0).1 = n then (n, some v) else ((pAny f n (pSng f n u 5) 0).1, none)
/-- facts: m t d, or l m d -/
def fct (u : Nat) (a b c : Int32) : Nat → Int32 := fun k => if u = 0 then (if k = 109 then a else if k = 116 then b else c) else (if k = 108 then a else if k = 109 then b else c)
/-- a tree of terms at r, of some depth, and what it gives -/
def TOK (h : AH) : Nat → Nat → Vf → Prop
  | 0, _, _ => False
  | n + 1, r, v => 96 ≤ r ∧ r < gN h ∧ (
      (gS h r = (20, 0) ∧ v = fun _ => gI h r 0) ∨
      (gS h r = (17, 0) ∧ ∃ k : Nat, k < 128 ∧ gI h r 0 = nI k ∧ v = fun F => F k) ∨
      (gS h r = (19, 0) ∧ ∃ a w, gR h r 0 = some a ∧ TOK h n a w ∧ v = fun F => bI (w F = 0)) ∨
      (gS h r = (15, 0) ∧ gI h r 0 ∈ ([42, 47, 37, 43, 45, 60, 61, 62, 38, 124] : List Int32) ∧ ∃ a b w z, gR h r 1 = some a ∧ gR h r 2 = some b ∧ TOK h n a w ∧ TOK h n b z ∧ v = fun F => two (gI h r 0) (w F) (z F)))
/-- one of people: object r, number p, kind, m -/
def PR (h : AH) (r p : Nat) (κ m : Int32) : Prop := ∃ t : Nat, t ≤ 6 ∧ κ = nI t ∧ 96 ≤ r ∧ r < gN h ∧ gS h r = (7 + t, 0) ∧ gR h r 0 = some 74 ∧ gI h r 1 = nI p ∧ gI h r 2 = m
def RDP (h : AH) (b : Nat) (D : De) : Prop := (∀ p, p < tn (D 3 3) → ∃ r, gR h (b + 4) p = some r ∧ PR h r p (D 4 p) (D 5 p)) ∧ ∀ p, p < 6 → tn (D 3 3) ≤ p → gR h (b + 4) p = none
def RDT (h : AH) (b : Nat) (D : De) : Prop := ∀ u, u < 2 → (D 11 u = -1 ∧ gR h (b + 9) u = none) ∨ ∃ r v, ¬ D 11 u < 0 ∧ gR h (b + 9) u = some r ∧ pTxt (D (12 + u)) (tn (D 11 u)) u = (tn (D 11 u), some v) ∧ TOK h 51 r v
/-- the desert whose cells start at b holds D -/
def RD (h : AH) (b : Nat) (D : De) : Prop :=
  (∀ w, w < 8 → gI h (b + 1) w = D 0 w) ∧ (∀ k, k < 64 → gI h (b + 2) k = D 1 k) ∧ (∀ k, k < 64 → gI h (b + 3) k = D 2 k) ∧
  (gI h b 3 = D 3 0 ∧ gI h b 4 = D 3 1 ∧ gI h b 5 = D 3 2 ∧ gI h b 6 = D 3 3 ∧ gI h b 13 = D 3 4 ∧ gI h b 15 = D 3 5 ∧ gI h b 17 = D 3 6) ∧
  (∀ p, p < 6 → gI h (b + 5) p = D 6 p) ∧ (∀ p, p < 6 → gI h (b + 6) p = D 7 p) ∧ (∀ p, p < 6 → gI h (b + 7) p = D 8 p) ∧ (∀ p, p < 6 → gI h (b + 8) p = D 9 p) ∧
  (∀ k, k < 50 → gI h (b + 10) k &&& 255 = D 10 k ∧ fits .byte (.int (gI h (b + 10) k)) = true) ∧ (∀ k, k < 20 → gI h (b + 11) k = D 14 k) ∧ RDP h b D ∧ RDT h b D
/-- the model's row at a holds D -/
def Row (h : AH) (a : Nat) (D : De) : Prop :=
  (∀ w, w < 8 → gI h a w = D 0 w) ∧ (∀ k, k < 64 → gI h a (8 + k) = D 1 k) ∧ (∀ k, k < 64 → gI h a (72 + k) = D 2 k) ∧
  (gI h a 136 = D 3 0 ∧ gI h a 137 = D 3 1 ∧ gI h a 138 = D 3 2 ∧ gI h a 139 = D 3 3 ∧ gI h a 176 = D 3 4 ∧ gI h a 177 = D 3 5 ∧ gI h a 178 = D 3 6) ∧
  (∀ p q, p < 6 → q < 6 → gI h a (140 + 6 * p + q) = D (4 + q) p) ∧ (∀ u, u < 2 → gI h a (179 + u) = D 11 u) ∧
  (∀ k, k < 50 → gI h a (181 + k) = D 10 k) ∧ (∀ u k, u < 2 → k < 50 → gI h a (231 + 50 * u + k) = D (12 + u) k) ∧ (∀ k, k < 20 → gI h a (331 + k) = D 14 k)
def upto (n : Nat) (x : Int32) : Prop := ∃ j : Nat, j ≤ n ∧ x = nI j
/-- what a desert keeps to -/
def Wd (D : De) : Prop :=
  (∀ w, w < 8 → upto 99 (D 0 w)) ∧ (∀ k, k < 64 → upto 20 (D 1 k)) ∧ (∀ k, k < 64 → upto 9999 (D 2 k)) ∧
  (upto 9 (D 3 0) ∧ upto 99999 (D 3 1) ∧ upto 9999 (D 3 2) ∧ upto 6 (D 3 3) ∧ upto 50 (D 3 5) ∧ upto 20 (D 3 6)) ∧
  (∀ p, p < 6 → upto 6 (D 4 p)) ∧ (∀ p, p < 6 → upto 9 (D 5 p)) ∧ (∀ p, p < 6 → upto 7 (D 6 p)) ∧ (∀ p, p < 6 → D 7 p = -1 ∨ upto 7 (D 7 p)) ∧
  (∀ p, p < 6 → D 9 p = 0 ∧ upto 36 (D 8 p) ∨ D 9 p = 1) ∧ (∀ k, k < 50 → upto 255 (D 10 k)) ∧ (∀ u, u < 2 → D 11 u = -1 ∨ upto 50 (D 11 u)) ∧ (∀ u k, u < 2 → k < 50 → upto 255 (D (12 + u) k))
/-- a shelf and its sheet -/
def Sh (h : AH) (E : De) (s r : Nat) : Prop := ∃ n w : Nat, w < 3 ∧ gR h (80 + s) 0 = some r ∧ 96 ≤ r ∧ r + 1 < gN h ∧ gS h r = (22 + w, 0) ∧ gR h r 0 = some (r + 1) ∧ n ≤ 40 ∧ gS h (r + 1) = ((if w = 0 then 42 else if w = 1 then 43 else 40), n) ∧
  E 4 s = (if w = 0 then 8 else if w = 1 then 16 else 32) ∧ E 5 s = nI n ∧ ∀ k, k < n → gI h (r + 1) k = E 6 (40 * s + k)
def RS (h : AH) (E : De) : Prop := (∀ s, s < 4 → (E 4 s = 0 ∧ E 5 s = 0 ∧ gR h (80 + s) 0 = none) ∨ ∃ r, Sh h E s r) ∧ ∀ s t r, s < 4 → t < 4 → s ≠ t → gR h (80 + s) 0 = some r → gR h (80 + t) 0 ≠ some r
/-- WellNames holds it -/
def RX (h : AH) (σ : Sg) : Prop := RD h 32 σ.1 ∧ (σ.2.2 0 0 = 0 ∨ RD h 46 σ.2.1) ∧ gI h 30 4 = σ.2.2 0 0 ∧ (∀ c, c < 6 → gI h 76 c = σ.2.2 1 c) ∧ gI h 74 1 = σ.2.2 2 0 ∧ (∀ i, i < 40 → gI h 75 i = σ.2.2 3 i) ∧ RS h σ.2.2
/-- the model holds it -/
def RM (h : AH) (σ : Sg) : Prop := Row h 85 σ.1 ∧ (σ.2.2 0 0 = 0 ∨ Row h 86 σ.2.1) ∧ gI h 84 4 = σ.2.2 0 0 ∧ (∀ c, c < 6 → gI h 88 c = σ.2.2 1 c) ∧ gI h 84 17 = σ.2.2 2 0 ∧ (∀ i, i < 40 → gI h 91 i = σ.2.2 3 i) ∧
  (∀ s, s < 4 → gI h 92 s = σ.2.2 4 s) ∧ (∀ s, s < 4 → gI h 93 s = σ.2.2 5 s) ∧ ∀ k, k < 160 → gI h 94 k = σ.2.2 6 k
/-- all keeps to its ranges; at most n images -/
def Wf (n : Nat) (σ : Sg) : Prop := Wd σ.1 ∧ (σ.2.2 0 0 = 0 ∨ Wd σ.2.1) ∧ upto n (σ.2.2 0 0) ∧ upto 40 (σ.2.2 2 0)
def oD (σ : Sg) (D : De) : Sg := (D, σ.2)
def oE (σ : Sg) (E : De) : Sg := (σ.1, σ.2.1, E)
/-- an error is counted -/
def aErr (σ : Sg) (c : Nat) : Int32 × Sg := (-1000000000 - nI c, oE σ (up2 σ.2.2 1 c (σ.2.2 1 c + 1)))
