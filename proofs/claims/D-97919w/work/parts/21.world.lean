/-! ===== the fixed cells: 30 WellNames, 31 Finding, 32 46 60 the three deserts (each 14 cells), 74 trace, 76 errors, 77 sheets (80-83), 78 least, 79 far; 84 the model (85 s .. 95 moved); made later: from 96 on ===== -/
def fxR : Nat → Nat → Option Nat := fun a k => match a, k with
  | 30, 0 => some 31
  | 30, 1 => some 32
  | 30, 2 => some 46
  | 30, 3 => some 60
  | 30, 5 => some 74
  | 30, 6 => some 76
  | 30, 7 => some 77
  | 30, 8 => some 78
  | 30, 11 => some 79
  | 32, 0 => some 33
  | 32, 1 => some 34
  | 32, 2 => some 35
  | 32, 7 => some 36
  | 32, 8 => some 37
  | 32, 9 => some 38
  | 32, 10 => some 39
  | 32, 11 => some 40
  | 32, 12 => some 41
  | 32, 14 => some 42
  | 32, 16 => some 43
  | 32, 18 => some 44
  | 44, 0 => some 45
  | 46, 0 => some 47
  | 46, 1 => some 48
  | 46, 2 => some 49
  | 46, 7 => some 50
  | 46, 8 => some 51
  | 46, 9 => some 52
  | 46, 10 => some 53
  | 46, 11 => some 54
  | 46, 12 => some 55
  | 46, 14 => some 56
  | 46, 16 => some 57
  | 46, 18 => some 58
  | 58, 0 => some 59
  | 60, 0 => some 61
  | 60, 1 => some 62
  | 60, 2 => some 63
  | 60, 7 => some 64
  | 60, 8 => some 65
  | 60, 9 => some 66
  | 60, 10 => some 67
  | 60, 11 => some 68
  | 60, 12 => some 69
  | 60, 14 => some 70
  | 60, 16 => some 71
  | 60, 18 => some 72
  | 72, 0 => some 73
  | 74, 0 => some 75
  | 77, 0 => some 80
  | 77, 1 => some 81
  | 77, 2 => some 82
  | 77, 3 => some 83
  | 84, 0 => some 85
  | 84, 1 => some 86
  | 84, 2 => some 87
  | 84, 3 => some 88
  | 84, 14 => some 89
  | 84, 15 => some 90
  | 84, 16 => some 91
  | 84, 21 => some 92
  | 84, 22 => some 93
  | 84, 23 => some 94
  | 84, 24 => some 95
  | _, _ => none
def fxS : Nat → Option (Nat × Nat) := fun a => match a with
  | 30 => some (0, 0)
  | 31 => some (1, 0)
  | 32 => some (2, 0)
  | 33 => some (40, 8)
  | 34 => some (40, 64)
  | 35 => some (40, 64)
  | 36 => some (44, 6)
  | 37 => some (40, 6)
  | 38 => some (40, 6)
  | 39 => some (40, 6)
  | 40 => some (41, 6)
  | 41 => some (45, 2)
  | 42 => some (42, 50)
  | 43 => some (40, 20)
  | 44 => some (3, 0)
  | 45 => some (40, 128)
  | 46 => some (2, 0)
  | 47 => some (40, 8)
  | 48 => some (40, 64)
  | 49 => some (40, 64)
  | 50 => some (44, 6)
  | 51 => some (40, 6)
  | 52 => some (40, 6)
  | 53 => some (40, 6)
  | 54 => some (41, 6)
  | 55 => some (45, 2)
  | 56 => some (42, 50)
  | 57 => some (40, 20)
  | 58 => some (3, 0)
  | 59 => some (40, 128)
  | 60 => some (2, 0)
  | 61 => some (40, 8)
  | 62 => some (40, 64)
  | 63 => some (40, 64)
  | 64 => some (44, 6)
  | 65 => some (40, 6)
  | 66 => some (40, 6)
  | 67 => some (40, 6)
  | 68 => some (41, 6)
  | 69 => some (45, 2)
  | 70 => some (42, 50)
  | 71 => some (40, 20)
  | 72 => some (3, 0)
  | 73 => some (40, 128)
  | 74 => some (4, 0)
  | 75 => some (40, 40)
  | 76 => some (40, 6)
  | 77 => some (46, 4)
  | 78 => some (40, 320)
  | 79 => some (40, 8)
  | 80 => some (5, 0)
  | 81 => some (5, 0)
  | 82 => some (5, 0)
  | 83 => some (5, 0)
  | 84 => some (6, 0)
  | 85 => some (40, 351)
  | 86 => some (40, 351)
  | 87 => some (40, 176)
  | 88 => some (40, 6)
  | 89 => some (40, 296)
  | 90 => some (40, 64)
  | 91 => some (40, 40)
  | 92 => some (40, 4)
  | 93 => some (40, 4)
  | 94 => some (40, 160)
  | 95 => some (40, 40)
  | _ => none
/-- the fixed cells stand -/
def Fx (h : AH) : Prop := (∀ a k b, fxR a k = some b → gR h a k = some b) ∧ (∀ a q, fxS a = some q → gS h a = q) ∧ 96 ≤ gN h
theorem Fx.r {h : AH} (hx : Fx h) (a k b : Nat) (e : fxR a k = some b) : gR h a k = some b := hx.1 a k b e
theorem Fx.s {h : AH} (hx : Fx h) (a : Nat) {q : Nat × Nat} (e : fxS a = some q) : gS h a = q := hx.2.1 a q e
theorem Fx.n {h : AH} (hx : Fx h) {a : Nat} (e : a < 96) : a < gN h := Nat.lt_of_lt_of_le e hx.2.2
theorem Fx.pI {h : AH} (hx : Fx h) (a k : Nat) (v : Int32) : Fx (pI h a k v) := hx
theorem fxR_none : ∀ a, 96 ≤ a → ∀ k, fxR a k = none := by
  intro a ha k
  unfold fxR
  split <;> first | rfl | omega
theorem fxS_none : ∀ a, 96 ≤ a → fxS a = none := by
  intro a ha
  unfold fxS
  split <;> first | rfl | omega
theorem Fx.pR {h : AH} (hx : Fx h) (a k : Nat) (v : Option Nat) (hn : fxR a k = none) : Fx (pR h a k v) := by
  refine ⟨fun b j c e => ?_, hx.2.1, hx.2.2⟩
  rw [gR_pR]
  by_cases h1 : b = a
  · by_cases h2 : j = k
    · subst h1; subst h2; rw [hn] at e; cases e
    · rw [if_pos h1, if_neg h2]; exact hx.1 b j c e
  · rw [if_neg h1]; exact hx.1 b j c e
theorem Fx.pN {h : AH} (hx : Fx h) (t l z : Nat) : Fx (pN h t l z) := by
  refine ⟨fun b j c e => ?_, fun b q e => ?_, Nat.le_succ_of_le hx.2.2⟩
  · rw [gR_pN]
    by_cases h1 : b = gN h
    · rw [fxR_none b (by rw [h1]; exact hx.2.2)] at e; cases e
    · rw [if_neg h1]; exact hx.1 b j c e
  · rw [gS_pN]
    by_cases h1 : b = gN h
    · rw [fxS_none b (by rw [h1]; exact hx.2.2)] at e; cases e
    · rw [if_neg h1]; exact hx.2.1 b q e
/-- ends of a method, exact -/
def rI (v : Int32) (h' : AH) : Outcome → AH → Prop := fun o k => o = .returned (some (.int v)) ∧ k = h'
def rV (h' : AH) : Outcome → AH → Prop := fun o k => o = .returned none ∧ k = h'
def rR (r : Option Nat) (h' : AH) : Outcome → AH → Prop := fun o k => o = .returned (some (rfv r)) ∧ k = h'
def rT (a : Nat) (h' : AH) : Outcome → AH → Prop := fun o k => o = .threw a ∧ k = h'
/-- a truth value as an int -/
def bI (P : Prop) [Decidable P] : Int32 := if P then 1 else 0
theorem bI_t {P : Prop} [Decidable P] (h : P) : bI P = 1 := if_pos h
theorem bI_f {P : Prop} [Decidable P] (h : ¬ P) : bI P = 0 := if_neg h
theorem bI_0 {P : Prop} [Decidable P] : bI P = 0 ↔ ¬ P := by
  unfold bI
  by_cases h : P
  · simp [h]
  · simp [h]
theorem bI_n {P : Prop} [Decidable P] : ¬ bI P = 0 ↔ P := by
  rw [bI_0]
  exact Decidable.not_not
theorem nar_bI {P : Prop} [Decidable P] : narrow .boolean (.int (bI P)) = .int (bI P) := by
  unfold bI
  by_cases h : P
  · rw [if_pos h]; rfl
  · rw [if_neg h]; rfl
section
variable {g : Gl} {M : MI} {d : Nat} {Q : Outcome → AH → Prop} {pc : Nat} {ls : List (Option Value)} {st0 st : List Value} {h : AH}
theorem a_cV {M' : MI} {d' idx n : Nat} {C : String} {b : Nat} {as : List Value} {Qc : Outcome → AH → Prop} (hM : AM g d' M' (.ref b :: as) h Qc) (hs : SiteV M.1.cls idx C M' n) (hd : decode M.2.1 pc = .ok (.invokevirtual idx, 3)) (hr : Recv g h b C) (hn : as.length = n) (hst : st0 = as.reverse ++ .ref b :: st) (hdd : d' + 1 ≤ d) (hw : (st.map fun v => v.category).sum ≤ 40) (kr : ∀ v h', Qc (.returned v) h' → AW g M d Q (pc + 3) ls (v.toList ++ st) h') (kt : ∀ x h', Qc (.threw x) h' → AT g M d Q pc ls x h') : AW g M d Q pc ls st0 h :=
  a_call (inv_V hs hd hr hn hst) hd hM hdd hw hs.2.2.2.2.2.2.2 hs.2.2.2.1 hs.2.2.2.2.1 kr kt
theorem a_cVi {M' : MI} {d' idx n : Nat} {C : String} {b : Nat} {as : List Value} {v : Int32} {h' : AH} (hM : AM g d' M' (.ref b :: as) h (rI v h')) (hs : SiteV M.1.cls idx C M' n) (hd : decode M.2.1 pc = .ok (.invokevirtual idx, 3)) (hr : Recv g h b C) (hn : as.length = n) (hst : st0 = as.reverse ++ .ref b :: st) (hdd : d' + 1 ≤ d) (hw : (st.map fun v => v.category).sum ≤ 40) (k : AW g M d Q (pc + 3) ls (.int v :: st) h') : AW g M d Q pc ls st0 h := by
  refine a_cV hM hs hd hr hn hst hdd hw (fun w h2 hq => ?_) (fun x h2 hq => ?_)
  · obtain ⟨e1, e2⟩ := hq
    cases e1; subst e2; exact k
  · obtain ⟨e1, e2⟩ := hq
    cases e1
theorem a_cVv {M' : MI} {d' idx n : Nat} {C : String} {b : Nat} {as : List Value} {h' : AH} (hM : AM g d' M' (.ref b :: as) h (rV h')) (hs : SiteV M.1.cls idx C M' n) (hd : decode M.2.1 pc = .ok (.invokevirtual idx, 3)) (hr : Recv g h b C) (hn : as.length = n) (hst : st0 = as.reverse ++ .ref b :: st) (hdd : d' + 1 ≤ d) (hw : (st.map fun v => v.category).sum ≤ 40) (k : AW g M d Q (pc + 3) ls (st) h') : AW g M d Q pc ls st0 h := by
  refine a_cV hM hs hd hr hn hst hdd hw (fun w h2 hq => ?_) (fun x h2 hq => ?_)
  · obtain ⟨e1, e2⟩ := hq
    cases e1; subst e2; exact k
  · obtain ⟨e1, e2⟩ := hq
    cases e1
theorem a_cVr {M' : MI} {d' idx n : Nat} {C : String} {b : Nat} {as : List Value} {r : Option Nat} {h' : AH} (hM : AM g d' M' (.ref b :: as) h (rR r h')) (hs : SiteV M.1.cls idx C M' n) (hd : decode M.2.1 pc = .ok (.invokevirtual idx, 3)) (hr : Recv g h b C) (hn : as.length = n) (hst : st0 = as.reverse ++ .ref b :: st) (hdd : d' + 1 ≤ d) (hw : (st.map fun v => v.category).sum ≤ 40) (k : AW g M d Q (pc + 3) ls (rfv r :: st) h') : AW g M d Q pc ls st0 h := by
  refine a_cV hM hs hd hr hn hst hdd hw (fun w h2 hq => ?_) (fun x h2 hq => ?_)
  · obtain ⟨e1, e2⟩ := hq
    cases e1; subst e2; exact k
  · obtain ⟨e1, e2⟩ := hq
    cases e1
theorem a_cVt {M' : MI} {d' idx n : Nat} {C : String} {b : Nat} {as : List Value} {a : Nat} {h' : AH} (hM : AM g d' M' (.ref b :: as) h (rT a h')) (hs : SiteV M.1.cls idx C M' n) (hd : decode M.2.1 pc = .ok (.invokevirtual idx, 3)) (hr : Recv g h b C) (hn : as.length = n) (hst : st0 = as.reverse ++ .ref b :: st) (hdd : d' + 1 ≤ d) (hw : (st.map fun v => v.category).sum ≤ 40) (k : AT g M d Q pc ls a h') : AW g M d Q pc ls st0 h := by
  refine a_cV hM hs hd hr hn hst hdd hw (fun w h2 hq => ?_) (fun x h2 hq => ?_)
  · obtain ⟨e1, e2⟩ := hq
    cases e1
  · obtain ⟨e1, e2⟩ := hq
    cases e1; subst e2; exact k
theorem a_cU {M' : MI} {d' idx n : Nat} {C owner : String} {x : MethodName} {b : Nat} {as : List Value} {Qc : Outcome → AH → Prop} (hM : AM g d' M' (.ref b :: as) h Qc) (hs : SiteU M.1.cls idx C owner x M' n) (hd : decode M.2.1 pc = .ok (.invokevirtual idx, 3)) (hr : Recv g h b C) (hn : as.length = n) (hst : st0 = as.reverse ++ .ref b :: st) (hdd : d' + 1 ≤ d) (hw : (st.map fun v => v.category).sum ≤ 40) (kr : ∀ v h', Qc (.returned v) h' → AW g M d Q (pc + 3) ls (v.toList ++ st) h') (kt : ∀ x h', Qc (.threw x) h' → AT g M d Q pc ls x h') : AW g M d Q pc ls st0 h :=
  a_call (inv_U hs hd hr hn hst) hd hM hdd hw hs.2.2.2.2.2.2.2.2.2 hs.2.2.2.2.2.1 hs.2.2.2.2.2.2.1 kr kt
theorem a_cUi {M' : MI} {d' idx n : Nat} {C owner : String} {x : MethodName} {b : Nat} {as : List Value} {v : Int32} {h' : AH} (hM : AM g d' M' (.ref b :: as) h (rI v h')) (hs : SiteU M.1.cls idx C owner x M' n) (hd : decode M.2.1 pc = .ok (.invokevirtual idx, 3)) (hr : Recv g h b C) (hn : as.length = n) (hst : st0 = as.reverse ++ .ref b :: st) (hdd : d' + 1 ≤ d) (hw : (st.map fun v => v.category).sum ≤ 40) (k : AW g M d Q (pc + 3) ls (.int v :: st) h') : AW g M d Q pc ls st0 h := by
  refine a_cU hM hs hd hr hn hst hdd hw (fun w h2 hq => ?_) (fun x h2 hq => ?_)
  · obtain ⟨e1, e2⟩ := hq
    cases e1; subst e2; exact k
  · obtain ⟨e1, e2⟩ := hq
    cases e1
theorem a_cUv {M' : MI} {d' idx n : Nat} {C owner : String} {x : MethodName} {b : Nat} {as : List Value} {h' : AH} (hM : AM g d' M' (.ref b :: as) h (rV h')) (hs : SiteU M.1.cls idx C owner x M' n) (hd : decode M.2.1 pc = .ok (.invokevirtual idx, 3)) (hr : Recv g h b C) (hn : as.length = n) (hst : st0 = as.reverse ++ .ref b :: st) (hdd : d' + 1 ≤ d) (hw : (st.map fun v => v.category).sum ≤ 40) (k : AW g M d Q (pc + 3) ls (st) h') : AW g M d Q pc ls st0 h := by
  refine a_cU hM hs hd hr hn hst hdd hw (fun w h2 hq => ?_) (fun x h2 hq => ?_)
  · obtain ⟨e1, e2⟩ := hq
    cases e1; subst e2; exact k
  · obtain ⟨e1, e2⟩ := hq
    cases e1
theorem a_cUr {M' : MI} {d' idx n : Nat} {C owner : String} {x : MethodName} {b : Nat} {as : List Value} {r : Option Nat} {h' : AH} (hM : AM g d' M' (.ref b :: as) h (rR r h')) (hs : SiteU M.1.cls idx C owner x M' n) (hd : decode M.2.1 pc = .ok (.invokevirtual idx, 3)) (hr : Recv g h b C) (hn : as.length = n) (hst : st0 = as.reverse ++ .ref b :: st) (hdd : d' + 1 ≤ d) (hw : (st.map fun v => v.category).sum ≤ 40) (k : AW g M d Q (pc + 3) ls (rfv r :: st) h') : AW g M d Q pc ls st0 h := by
  refine a_cU hM hs hd hr hn hst hdd hw (fun w h2 hq => ?_) (fun x h2 hq => ?_)
  · obtain ⟨e1, e2⟩ := hq
    cases e1; subst e2; exact k
  · obtain ⟨e1, e2⟩ := hq
    cases e1
theorem a_cUt {M' : MI} {d' idx n : Nat} {C owner : String} {x : MethodName} {b : Nat} {as : List Value} {a : Nat} {h' : AH} (hM : AM g d' M' (.ref b :: as) h (rT a h')) (hs : SiteU M.1.cls idx C owner x M' n) (hd : decode M.2.1 pc = .ok (.invokevirtual idx, 3)) (hr : Recv g h b C) (hn : as.length = n) (hst : st0 = as.reverse ++ .ref b :: st) (hdd : d' + 1 ≤ d) (hw : (st.map fun v => v.category).sum ≤ 40) (k : AT g M d Q pc ls a h') : AW g M d Q pc ls st0 h := by
  refine a_cU hM hs hd hr hn hst hdd hw (fun w h2 hq => ?_) (fun x h2 hq => ?_)
  · obtain ⟨e1, e2⟩ := hq
    cases e1
  · obtain ⟨e1, e2⟩ := hq
    cases e1; subst e2; exact k
theorem a_cS {M' : MI} {d' idx n : Nat}  {as : List Value} {Qc : Outcome → AH → Prop} (hM : AM g d' M' (as) h Qc) (hs : SiteS M.1.cls idx M' n) (hd : decode M.2.1 pc = .ok (.invokestatic idx, 3)) (hn : as.length = n) (hst : st0 = as.reverse ++ st) (hdd : d' + 1 ≤ d) (hw : (st.map fun v => v.category).sum ≤ 40) (kr : ∀ v h', Qc (.returned v) h' → AW g M d Q (pc + 3) ls (v.toList ++ st) h') (kt : ∀ x h', Qc (.threw x) h' → AT g M d Q pc ls x h') : AW g M d Q pc ls st0 h :=
  a_call (inv_S hs hd hn hst) hd hM hdd hw hs.2.2.2.2.2.2 hs.2.2.1 hs.2.2.2.1 kr kt
theorem a_cSi {M' : MI} {d' idx n : Nat}  {as : List Value} {v : Int32} {h' : AH} (hM : AM g d' M' (as) h (rI v h')) (hs : SiteS M.1.cls idx M' n) (hd : decode M.2.1 pc = .ok (.invokestatic idx, 3)) (hn : as.length = n) (hst : st0 = as.reverse ++ st) (hdd : d' + 1 ≤ d) (hw : (st.map fun v => v.category).sum ≤ 40) (k : AW g M d Q (pc + 3) ls (.int v :: st) h') : AW g M d Q pc ls st0 h := by
  refine a_cS hM hs hd hn hst hdd hw (fun w h2 hq => ?_) (fun x h2 hq => ?_)
  · obtain ⟨e1, e2⟩ := hq
    cases e1; subst e2; exact k
  · obtain ⟨e1, e2⟩ := hq
    cases e1
theorem a_cSv {M' : MI} {d' idx n : Nat}  {as : List Value} {h' : AH} (hM : AM g d' M' (as) h (rV h')) (hs : SiteS M.1.cls idx M' n) (hd : decode M.2.1 pc = .ok (.invokestatic idx, 3)) (hn : as.length = n) (hst : st0 = as.reverse ++ st) (hdd : d' + 1 ≤ d) (hw : (st.map fun v => v.category).sum ≤ 40) (k : AW g M d Q (pc + 3) ls (st) h') : AW g M d Q pc ls st0 h := by
  refine a_cS hM hs hd hn hst hdd hw (fun w h2 hq => ?_) (fun x h2 hq => ?_)
  · obtain ⟨e1, e2⟩ := hq
    cases e1; subst e2; exact k
  · obtain ⟨e1, e2⟩ := hq
    cases e1
theorem a_cSr {M' : MI} {d' idx n : Nat}  {as : List Value} {r : Option Nat} {h' : AH} (hM : AM g d' M' (as) h (rR r h')) (hs : SiteS M.1.cls idx M' n) (hd : decode M.2.1 pc = .ok (.invokestatic idx, 3)) (hn : as.length = n) (hst : st0 = as.reverse ++ st) (hdd : d' + 1 ≤ d) (hw : (st.map fun v => v.category).sum ≤ 40) (k : AW g M d Q (pc + 3) ls (rfv r :: st) h') : AW g M d Q pc ls st0 h := by
  refine a_cS hM hs hd hn hst hdd hw (fun w h2 hq => ?_) (fun x h2 hq => ?_)
  · obtain ⟨e1, e2⟩ := hq
    cases e1; subst e2; exact k
  · obtain ⟨e1, e2⟩ := hq
    cases e1
theorem a_cSt {M' : MI} {d' idx n : Nat}  {as : List Value} {a : Nat} {h' : AH} (hM : AM g d' M' (as) h (rT a h')) (hs : SiteS M.1.cls idx M' n) (hd : decode M.2.1 pc = .ok (.invokestatic idx, 3)) (hn : as.length = n) (hst : st0 = as.reverse ++ st) (hdd : d' + 1 ≤ d) (hw : (st.map fun v => v.category).sum ≤ 40) (k : AT g M d Q pc ls a h') : AW g M d Q pc ls st0 h := by
  refine a_cS hM hs hd hn hst hdd hw (fun w h2 hq => ?_) (fun x h2 hq => ?_)
  · obtain ⟨e1, e2⟩ := hq
    cases e1
  · obtain ⟨e1, e2⟩ := hq
    cases e1; subst e2; exact k
theorem a_cN {M' : MI} {d' idx n : Nat} {b : Nat} {as : List Value} {Qc : Outcome → AH → Prop} (hM : AM g d' M' (.ref b :: as) h Qc) (hs : SiteI M.1.cls idx M' n) (hd : decode M.2.1 pc = .ok (.invokespecial idx, 3)) (hn : as.length = n) (hst : st0 = as.reverse ++ .ref b :: st) (hdd : d' + 1 ≤ d) (hw : (st.map fun v => v.category).sum ≤ 40) (kr : ∀ v h', Qc (.returned v) h' → AW g M d Q (pc + 3) ls (v.toList ++ st) h') (kt : ∀ x h', Qc (.threw x) h' → AT g M d Q pc ls x h') : AW g M d Q pc ls st0 h :=
  a_call (inv_I hs hd hn hst) hd hM hdd hw hs.2.2.2.2.2.2.2.2 (by rw [hs.2.2.2.1]; exact hs.2.2.1) hs.2.2.2.2.2.1 kr kt
theorem a_cNi {M' : MI} {d' idx n : Nat} {b : Nat} {as : List Value} {v : Int32} {h' : AH} (hM : AM g d' M' (.ref b :: as) h (rI v h')) (hs : SiteI M.1.cls idx M' n) (hd : decode M.2.1 pc = .ok (.invokespecial idx, 3)) (hn : as.length = n) (hst : st0 = as.reverse ++ .ref b :: st) (hdd : d' + 1 ≤ d) (hw : (st.map fun v => v.category).sum ≤ 40) (k : AW g M d Q (pc + 3) ls (.int v :: st) h') : AW g M d Q pc ls st0 h := by
  refine a_cN hM hs hd hn hst hdd hw (fun w h2 hq => ?_) (fun x h2 hq => ?_)
  · obtain ⟨e1, e2⟩ := hq
    cases e1; subst e2; exact k
  · obtain ⟨e1, e2⟩ := hq
    cases e1
theorem a_cNv {M' : MI} {d' idx n : Nat} {b : Nat} {as : List Value} {h' : AH} (hM : AM g d' M' (.ref b :: as) h (rV h')) (hs : SiteI M.1.cls idx M' n) (hd : decode M.2.1 pc = .ok (.invokespecial idx, 3)) (hn : as.length = n) (hst : st0 = as.reverse ++ .ref b :: st) (hdd : d' + 1 ≤ d) (hw : (st.map fun v => v.category).sum ≤ 40) (k : AW g M d Q (pc + 3) ls (st) h') : AW g M d Q pc ls st0 h := by
  refine a_cN hM hs hd hn hst hdd hw (fun w h2 hq => ?_) (fun x h2 hq => ?_)
  · obtain ⟨e1, e2⟩ := hq
    cases e1; subst e2; exact k
  · obtain ⟨e1, e2⟩ := hq
    cases e1
theorem a_cNr {M' : MI} {d' idx n : Nat} {b : Nat} {as : List Value} {r : Option Nat} {h' : AH} (hM : AM g d' M' (.ref b :: as) h (rR r h')) (hs : SiteI M.1.cls idx M' n) (hd : decode M.2.1 pc = .ok (.invokespecial idx, 3)) (hn : as.length = n) (hst : st0 = as.reverse ++ .ref b :: st) (hdd : d' + 1 ≤ d) (hw : (st.map fun v => v.category).sum ≤ 40) (k : AW g M d Q (pc + 3) ls (rfv r :: st) h') : AW g M d Q pc ls st0 h := by
  refine a_cN hM hs hd hn hst hdd hw (fun w h2 hq => ?_) (fun x h2 hq => ?_)
  · obtain ⟨e1, e2⟩ := hq
    cases e1; subst e2; exact k
  · obtain ⟨e1, e2⟩ := hq
    cases e1
theorem a_cNt {M' : MI} {d' idx n : Nat} {b : Nat} {as : List Value} {a : Nat} {h' : AH} (hM : AM g d' M' (.ref b :: as) h (rT a h')) (hs : SiteI M.1.cls idx M' n) (hd : decode M.2.1 pc = .ok (.invokespecial idx, 3)) (hn : as.length = n) (hst : st0 = as.reverse ++ .ref b :: st) (hdd : d' + 1 ≤ d) (hw : (st.map fun v => v.category).sum ≤ 40) (k : AT g M d Q pc ls a h') : AW g M d Q pc ls st0 h := by
  refine a_cN hM hs hd hn hst hdd hw (fun w h2 hq => ?_) (fun x h2 hq => ?_)
  · obtain ⟨e1, e2⟩ := hq
    cases e1
  · obtain ⟨e1, e2⟩ := hq
    cases e1; subst e2; exact k
theorem a_cP {M' : MI} {d' idx n : Nat} {C : String} {x : MethodName} {b : Nat} {as : List Value} {Qc : Outcome → AH → Prop} (hM : AM g d' M' (.ref b :: as) h Qc) (hs : SiteP M.1.cls idx x M' n) (hd : decode M.2.1 pc = .ok (.invokespecial idx, 3)) (hr : Recv g h b C) (hn : as.length = n) (hst : st0 = as.reverse ++ .ref b :: st) (hdd : d' + 1 ≤ d) (hw : (st.map fun v => v.category).sum ≤ 40) (kr : ∀ v h', Qc (.returned v) h' → AW g M d Q (pc + 3) ls (v.toList ++ st) h') (kt : ∀ x h', Qc (.threw x) h' → AT g M d Q pc ls x h') : AW g M d Q pc ls st0 h :=
  a_call (inv_P hs hd hr hn hst) hd hM hdd hw hs.2.2.2.2.2.2.2.2.2.2.2 hs.2.2.2.2.2.2.2.1 hs.2.2.2.2.2.2.2.2.2.1 kr kt
theorem a_cPi {M' : MI} {d' idx n : Nat} {C : String} {x : MethodName} {b : Nat} {as : List Value} {v : Int32} {h' : AH} (hM : AM g d' M' (.ref b :: as) h (rI v h')) (hs : SiteP M.1.cls idx x M' n) (hd : decode M.2.1 pc = .ok (.invokespecial idx, 3)) (hr : Recv g h b C) (hn : as.length = n) (hst : st0 = as.reverse ++ .ref b :: st) (hdd : d' + 1 ≤ d) (hw : (st.map fun v => v.category).sum ≤ 40) (k : AW g M d Q (pc + 3) ls (.int v :: st) h') : AW g M d Q pc ls st0 h := by
  refine a_cP hM hs hd hr hn hst hdd hw (fun w h2 hq => ?_) (fun x h2 hq => ?_)
  · obtain ⟨e1, e2⟩ := hq
    cases e1; subst e2; exact k
  · obtain ⟨e1, e2⟩ := hq
    cases e1
theorem a_cPv {M' : MI} {d' idx n : Nat} {C : String} {x : MethodName} {b : Nat} {as : List Value} {h' : AH} (hM : AM g d' M' (.ref b :: as) h (rV h')) (hs : SiteP M.1.cls idx x M' n) (hd : decode M.2.1 pc = .ok (.invokespecial idx, 3)) (hr : Recv g h b C) (hn : as.length = n) (hst : st0 = as.reverse ++ .ref b :: st) (hdd : d' + 1 ≤ d) (hw : (st.map fun v => v.category).sum ≤ 40) (k : AW g M d Q (pc + 3) ls (st) h') : AW g M d Q pc ls st0 h := by
  refine a_cP hM hs hd hr hn hst hdd hw (fun w h2 hq => ?_) (fun x h2 hq => ?_)
  · obtain ⟨e1, e2⟩ := hq
    cases e1; subst e2; exact k
  · obtain ⟨e1, e2⟩ := hq
    cases e1
theorem a_cPr {M' : MI} {d' idx n : Nat} {C : String} {x : MethodName} {b : Nat} {as : List Value} {r : Option Nat} {h' : AH} (hM : AM g d' M' (.ref b :: as) h (rR r h')) (hs : SiteP M.1.cls idx x M' n) (hd : decode M.2.1 pc = .ok (.invokespecial idx, 3)) (hr : Recv g h b C) (hn : as.length = n) (hst : st0 = as.reverse ++ .ref b :: st) (hdd : d' + 1 ≤ d) (hw : (st.map fun v => v.category).sum ≤ 40) (k : AW g M d Q (pc + 3) ls (rfv r :: st) h') : AW g M d Q pc ls st0 h := by
  refine a_cP hM hs hd hr hn hst hdd hw (fun w h2 hq => ?_) (fun x h2 hq => ?_)
  · obtain ⟨e1, e2⟩ := hq
    cases e1; subst e2; exact k
  · obtain ⟨e1, e2⟩ := hq
    cases e1
theorem a_cPt {M' : MI} {d' idx n : Nat} {C : String} {x : MethodName} {b : Nat} {as : List Value} {a : Nat} {h' : AH} (hM : AM g d' M' (.ref b :: as) h (rT a h')) (hs : SiteP M.1.cls idx x M' n) (hd : decode M.2.1 pc = .ok (.invokespecial idx, 3)) (hr : Recv g h b C) (hn : as.length = n) (hst : st0 = as.reverse ++ .ref b :: st) (hdd : d' + 1 ≤ d) (hw : (st.map fun v => v.category).sum ≤ 40) (k : AT g M d Q pc ls a h') : AW g M d Q pc ls st0 h := by
  refine a_cP hM hs hd hr hn hst hdd hw (fun w h2 hq => ?_) (fun x h2 hq => ?_)
  · obtain ⟨e1, e2⟩ := hq
    cases e1
  · obtain ⟨e1, e2⟩ := hq
    cases e1; subst e2; exact k
theorem a_cF {M' : MI} {d' idx n : Nat} {C : String} {x : MethodName} {b count : Nat} {as : List Value} {Qc : Outcome → AH → Prop} (hM : AM g d' M' (.ref b :: as) h Qc) (hs : SiteF M.1.cls idx C x M' n) (hd : decode M.2.1 pc = .ok (.invokeinterface idx count, 5)) (hr : Recv g h b C) (hn : as.length = n) (hst : st0 = as.reverse ++ .ref b :: st) (hdd : d' + 1 ≤ d) (hw : (st.map fun v => v.category).sum ≤ 40) (kr : ∀ v h', Qc (.returned v) h' → AW g M d Q (pc + 5) ls (v.toList ++ st) h') (kt : ∀ x h', Qc (.threw x) h' → AT g M d Q pc ls x h') : AW g M d Q pc ls st0 h :=
  a_call (inv_F hs hd hr hn hst) hd hM hdd hw hs.2.2.2.2.2.2.2 hs.2.2.2.2.1 hs.2.2.2.2.2.1 kr kt
theorem a_cFi {M' : MI} {d' idx n : Nat} {C : String} {x : MethodName} {b count : Nat} {as : List Value} {v : Int32} {h' : AH} (hM : AM g d' M' (.ref b :: as) h (rI v h')) (hs : SiteF M.1.cls idx C x M' n) (hd : decode M.2.1 pc = .ok (.invokeinterface idx count, 5)) (hr : Recv g h b C) (hn : as.length = n) (hst : st0 = as.reverse ++ .ref b :: st) (hdd : d' + 1 ≤ d) (hw : (st.map fun v => v.category).sum ≤ 40) (k : AW g M d Q (pc + 5) ls (.int v :: st) h') : AW g M d Q pc ls st0 h := by
  refine a_cF hM hs hd hr hn hst hdd hw (fun w h2 hq => ?_) (fun x h2 hq => ?_)
  · obtain ⟨e1, e2⟩ := hq
    cases e1; subst e2; exact k
  · obtain ⟨e1, e2⟩ := hq
    cases e1
theorem a_cFv {M' : MI} {d' idx n : Nat} {C : String} {x : MethodName} {b count : Nat} {as : List Value} {h' : AH} (hM : AM g d' M' (.ref b :: as) h (rV h')) (hs : SiteF M.1.cls idx C x M' n) (hd : decode M.2.1 pc = .ok (.invokeinterface idx count, 5)) (hr : Recv g h b C) (hn : as.length = n) (hst : st0 = as.reverse ++ .ref b :: st) (hdd : d' + 1 ≤ d) (hw : (st.map fun v => v.category).sum ≤ 40) (k : AW g M d Q (pc + 5) ls (st) h') : AW g M d Q pc ls st0 h := by
  refine a_cF hM hs hd hr hn hst hdd hw (fun w h2 hq => ?_) (fun x h2 hq => ?_)
  · obtain ⟨e1, e2⟩ := hq
    cases e1; subst e2; exact k
  · obtain ⟨e1, e2⟩ := hq
    cases e1
theorem a_cFr {M' : MI} {d' idx n : Nat} {C : String} {x : MethodName} {b count : Nat} {as : List Value} {r : Option Nat} {h' : AH} (hM : AM g d' M' (.ref b :: as) h (rR r h')) (hs : SiteF M.1.cls idx C x M' n) (hd : decode M.2.1 pc = .ok (.invokeinterface idx count, 5)) (hr : Recv g h b C) (hn : as.length = n) (hst : st0 = as.reverse ++ .ref b :: st) (hdd : d' + 1 ≤ d) (hw : (st.map fun v => v.category).sum ≤ 40) (k : AW g M d Q (pc + 5) ls (rfv r :: st) h') : AW g M d Q pc ls st0 h := by
  refine a_cF hM hs hd hr hn hst hdd hw (fun w h2 hq => ?_) (fun x h2 hq => ?_)
  · obtain ⟨e1, e2⟩ := hq
    cases e1; subst e2; exact k
  · obtain ⟨e1, e2⟩ := hq
    cases e1
theorem a_cFt {M' : MI} {d' idx n : Nat} {C : String} {x : MethodName} {b count : Nat} {as : List Value} {a : Nat} {h' : AH} (hM : AM g d' M' (.ref b :: as) h (rT a h')) (hs : SiteF M.1.cls idx C x M' n) (hd : decode M.2.1 pc = .ok (.invokeinterface idx count, 5)) (hr : Recv g h b C) (hn : as.length = n) (hst : st0 = as.reverse ++ .ref b :: st) (hdd : d' + 1 ≤ d) (hw : (st.map fun v => v.category).sum ≤ 40) (k : AT g M d Q pc ls a h') : AW g M d Q pc ls st0 h := by
  refine a_cF hM hs hd hr hn hst hdd hw (fun w h2 hq => ?_) (fun x h2 hq => ?_)
  · obtain ⟨e1, e2⟩ := hq
    cases e1
  · obtain ⟨e1, e2⟩ := hq
    cases e1; subst e2; exact k
end
theorem rI_of {v v' : Int32} {h h' : AH} (e : v = v') (e2 : h = h') : rI v' h' (.returned (some (.int v))) h := by
  subst e; subst e2; exact ⟨rfl, rfl⟩
theorem rV_of {h h' : AH} (e2 : h = h') : rV h' (.returned none) h := by
  subst e2; exact ⟨rfl, rfl⟩
theorem rR_of {r r' : Option Nat} {h h' : AH} (e : r = r') (e2 : h = h') : rR r' h' (.returned (some (rfv r))) h := by
  subst e; subst e2; exact ⟨rfl, rfl⟩
theorem rT_of {a a' : Nat} {h h' : AH} (e : a = a') (e2 : h = h') : rT a' h' (.threw a) h := by
  subst e; subst e2; exact ⟨rfl, rfl⟩
