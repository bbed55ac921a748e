/-! ===== more rows: loops, joins, ends that are not exact (printed by gen/p41.py) ===== -/
def eI (v : Int32) (P : AH → Prop) : Outcome → AH → Prop := fun o h => o = .returned (some (.int v)) ∧ P h
def eV (P : AH → Prop) : Outcome → AH → Prop := fun o h => o = .returned none ∧ P h
def eR (P : Nat → AH → Prop) : Outcome → AH → Prop := fun o h => ∃ r : Nat, o = .returned (some (.ref r)) ∧ P r h
def eJ (P : Int32 → AH → Prop) : Outcome → AH → Prop := fun o h => ∃ v : Int32, o = .returned (some (.int v)) ∧ P v h
def eT (P : Nat → AH → Prop) : Outcome → AH → Prop := fun o h => ∃ a : Nat, o = .threw a ∧ P a h
theorem eI_of {v v2 : Int32} {P : AH → Prop} {h : AH} (e : v = v2) (hp : P h) : eI v2 P (.returned (some (.int v))) h := by
  subst e; exact ⟨rfl, hp⟩
theorem eJ_of {v : Int32} {P : Int32 → AH → Prop} {h : AH} (hp : P v h) : eJ P (.returned (some (.int v))) h := ⟨v, rfl, hp⟩
theorem eV_of {P : AH → Prop} {h : AH} (hp : P h) : eV P (.returned none) h := ⟨rfl, hp⟩
theorem eR_of {r : Nat} {P : Nat → AH → Prop} {h : AH} (hp : P r h) : eR P (.returned (some (.ref r))) h := ⟨r, rfl, hp⟩
theorem eT_of {r : Nat} {P : Nat → AH → Prop} {h : AH} (hp : P r h) : eT P (.threw r) h := ⟨r, rfl, hp⟩
section
variable {g : Gl} {M : MI} {d : Nat} {Q : Outcome → AH → Prop} {pc : Nat} {ls : List (Option Value)} {st st0 : List Value} {h : AH}
theorem AW.lh {ls' : List (Option Value)} {h' : AH} (k : AW g M d Q pc ls' st h') (e1 : ls = ls') (e2 : h = h') : AW g M d Q pc ls st h := by
  subst e1; subst e2; exact k
theorem AW.for (L : Nat → List (Option Value)) (H : Nat → AH) (N : Nat) (e1 : ls = L 0) (e2 : h = H 0) (step : ∀ k, k < N → AW g M d Q pc (L (k + 1)) st (H (k + 1)) → AW g M d Q pc (L k) st (H k)) (done : AW g M d Q pc (L N) st (H N)) : AW g M d Q pc ls st h := by
  subst e1; subst e2
  have key : ∀ n, n ≤ N → AW g M d Q pc (L (N - n)) st (H (N - n)) := by
    intro n
    induction n with
    | zero => intro _; exact done
    | succ n ih =>
      intro hn
      have q := ih (by omega)
      have e : N - n = N - (n + 1) + 1 := by omega
      rw [e] at q
      exact step _ (by omega) q
  have q := key N (Nat.le_refl _)
  rw [Nat.sub_self] at q
  exact q
theorem AW.forP (L : Nat → List (Option Value)) (P : Nat → AH → Prop) (N : Nat) (e1 : ls = L 0) (e2 : P 0 h) (step : ∀ k h1, k < N → P k h1 → (∀ h2, P (k + 1) h2 → AW g M d Q pc (L (k + 1)) st h2) → AW g M d Q pc (L k) st h1) (done : ∀ h1, P N h1 → AW g M d Q pc (L N) st h1) : AW g M d Q pc ls st h := by
  subst e1
  have key : ∀ n, n ≤ N → ∀ h1, P (N - n) h1 → AW g M d Q pc (L (N - n)) st h1 := by
    intro n
    induction n with
    | zero => intro _ h1 p; exact done h1 p
    | succ n ih =>
      intro hn h1 p
      have q := ih (by omega)
      have e : N - n = N - (n + 1) + 1 := by omega
      rw [e] at q
      exact step _ h1 (by omega) p q
  have q := key N (Nat.le_refl _) h
  rw [Nat.sub_self] at q
  exact q e2
/-- a loop that goes on while some number lessens -/
theorem AW.whl (P : Nat → List (Option Value) → AH → Prop) (n : Nat) (e2 : P n ls h) (step : ∀ k l1 h1, P k l1 h1 → (∀ j l2 h2, j < k → P j l2 h2 → AW g M d Q pc l2 st h2) → AW g M d Q pc l1 st h1) : AW g M d Q pc ls st h := by
  have key : ∀ m k, k < m → ∀ l1 h1, P k l1 h1 → AW g M d Q pc l1 st h1 := by
    intro m
    induction m with
    | zero => intro k hk; omega
    | succ m ih =>
      intro k hk l1 h1 p
      exact step k l1 h1 p (fun j l2 h2 hj p2 => ih j (by omega) l2 h2 p2)
  exact key (n + 1) n (Nat.lt_succ_self n) ls h e2
/-- many ways to one place -/
theorem a_join (J : Nat) (v : Int32) (k : AW g M d Q J ls (.int v :: st) h) (r : (∀ w : Int32, w = v → AW g M d Q J ls (.int w :: st) h) → AW g M d Q pc ls st h) : AW g M d Q pc ls st h := r (fun w e => e ▸ k)
theorem a_join0 (J : Nat) (k : AW g M d Q J ls st h) (r : AW g M d Q J ls st h → AW g M d Q pc ls st h) : AW g M d Q pc ls st h := r k
theorem a_cVe {M' : MI} {d' idx n : Nat} {C : String} {b : Nat} {as : List Value} {v : Int32} {P : AH → Prop} (hM : AM g d' M' (.ref b :: as) h (eI v P)) (hs : SiteV M.1.cls idx C M' n) (hd : decode M.2.1 pc = .ok (.invokevirtual idx, 3)) (hr : Recv g h b C) (hn : as.length = n) (hst : st0 = as.reverse ++ .ref b :: st) (hdd : d' + 1 ≤ d) (hw : (st.map fun v => v.category).sum ≤ 40) (k : ∀ h', P h' → AW g M d Q (pc + 3) ls (.int v :: st) h') : AW g M d Q pc ls st0 h := by
  refine a_cV hM hs hd hr hn hst hdd hw (fun w h2 hq => ?_) (fun x h2 hq => ?_)
  · obtain ⟨e1, e2⟩ := hq
    cases e1; exact k _ e2
  · obtain ⟨e1, e2⟩ := hq
    cases e1
theorem a_cVw {M' : MI} {d' idx n : Nat} {C : String} {b : Nat} {as : List Value} {P : AH → Prop} (hM : AM g d' M' (.ref b :: as) h (eV P)) (hs : SiteV M.1.cls idx C M' n) (hd : decode M.2.1 pc = .ok (.invokevirtual idx, 3)) (hr : Recv g h b C) (hn : as.length = n) (hst : st0 = as.reverse ++ .ref b :: st) (hdd : d' + 1 ≤ d) (hw : (st.map fun v => v.category).sum ≤ 40) (k : ∀ h', P h' → AW g M d Q (pc + 3) ls st h') : AW g M d Q pc ls st0 h := by
  refine a_cV hM hs hd hr hn hst hdd hw (fun w h2 hq => ?_) (fun x h2 hq => ?_)
  · obtain ⟨e1, e2⟩ := hq
    cases e1; exact k _ e2
  · obtain ⟨e1, e2⟩ := hq
    cases e1
theorem a_cVq {M' : MI} {d' idx n : Nat} {C : String} {b : Nat} {as : List Value} {P : Nat → AH → Prop} (hM : AM g d' M' (.ref b :: as) h (eR P)) (hs : SiteV M.1.cls idx C M' n) (hd : decode M.2.1 pc = .ok (.invokevirtual idx, 3)) (hr : Recv g h b C) (hn : as.length = n) (hst : st0 = as.reverse ++ .ref b :: st) (hdd : d' + 1 ≤ d) (hw : (st.map fun v => v.category).sum ≤ 40) (k : ∀ r h', P r h' → AW g M d Q (pc + 3) ls (.ref r :: st) h') : AW g M d Q pc ls st0 h := by
  refine a_cV hM hs hd hr hn hst hdd hw (fun w h2 hq => ?_) (fun x h2 hq => ?_)
  · obtain ⟨r, e1, e2⟩ := hq
    cases e1; exact k _ _ e2
  · obtain ⟨r, e1, e2⟩ := hq
    cases e1
theorem a_cVj {M' : MI} {d' idx n : Nat} {C : String} {b : Nat} {as : List Value} {P : Int32 → AH → Prop} (hM : AM g d' M' (.ref b :: as) h (eJ P)) (hs : SiteV M.1.cls idx C M' n) (hd : decode M.2.1 pc = .ok (.invokevirtual idx, 3)) (hr : Recv g h b C) (hn : as.length = n) (hst : st0 = as.reverse ++ .ref b :: st) (hdd : d' + 1 ≤ d) (hw : (st.map fun v => v.category).sum ≤ 40) (k : ∀ v h', P v h' → AW g M d Q (pc + 3) ls (.int v :: st) h') : AW g M d Q pc ls st0 h := by
  refine a_cV hM hs hd hr hn hst hdd hw (fun w h2 hq => ?_) (fun x h2 hq => ?_)
  · obtain ⟨r, e1, e2⟩ := hq
    cases e1; exact k _ _ e2
  · obtain ⟨r, e1, e2⟩ := hq
    cases e1
theorem a_cUe {M' : MI} {d' idx n : Nat} {C owner : String} {x : MethodName} {b : Nat} {as : List Value} {v : Int32} {P : AH → Prop} (hM : AM g d' M' (.ref b :: as) h (eI v P)) (hs : SiteU M.1.cls idx C owner x M' n) (hd : decode M.2.1 pc = .ok (.invokevirtual idx, 3)) (hr : Recv g h b C) (hn : as.length = n) (hst : st0 = as.reverse ++ .ref b :: st) (hdd : d' + 1 ≤ d) (hw : (st.map fun v => v.category).sum ≤ 40) (k : ∀ h', P h' → AW g M d Q (pc + 3) ls (.int v :: st) h') : AW g M d Q pc ls st0 h := by
  refine a_cU hM hs hd hr hn hst hdd hw (fun w h2 hq => ?_) (fun x h2 hq => ?_)
  · obtain ⟨e1, e2⟩ := hq
    cases e1; exact k _ e2
  · obtain ⟨e1, e2⟩ := hq
    cases e1
theorem a_cUw {M' : MI} {d' idx n : Nat} {C owner : String} {x : MethodName} {b : Nat} {as : List Value} {P : AH → Prop} (hM : AM g d' M' (.ref b :: as) h (eV P)) (hs : SiteU M.1.cls idx C owner x M' n) (hd : decode M.2.1 pc = .ok (.invokevirtual idx, 3)) (hr : Recv g h b C) (hn : as.length = n) (hst : st0 = as.reverse ++ .ref b :: st) (hdd : d' + 1 ≤ d) (hw : (st.map fun v => v.category).sum ≤ 40) (k : ∀ h', P h' → AW g M d Q (pc + 3) ls st h') : AW g M d Q pc ls st0 h := by
  refine a_cU hM hs hd hr hn hst hdd hw (fun w h2 hq => ?_) (fun x h2 hq => ?_)
  · obtain ⟨e1, e2⟩ := hq
    cases e1; exact k _ e2
  · obtain ⟨e1, e2⟩ := hq
    cases e1
theorem a_cUq {M' : MI} {d' idx n : Nat} {C owner : String} {x : MethodName} {b : Nat} {as : List Value} {P : Nat → AH → Prop} (hM : AM g d' M' (.ref b :: as) h (eR P)) (hs : SiteU M.1.cls idx C owner x M' n) (hd : decode M.2.1 pc = .ok (.invokevirtual idx, 3)) (hr : Recv g h b C) (hn : as.length = n) (hst : st0 = as.reverse ++ .ref b :: st) (hdd : d' + 1 ≤ d) (hw : (st.map fun v => v.category).sum ≤ 40) (k : ∀ r h', P r h' → AW g M d Q (pc + 3) ls (.ref r :: st) h') : AW g M d Q pc ls st0 h := by
  refine a_cU hM hs hd hr hn hst hdd hw (fun w h2 hq => ?_) (fun x h2 hq => ?_)
  · obtain ⟨r, e1, e2⟩ := hq
    cases e1; exact k _ _ e2
  · obtain ⟨r, e1, e2⟩ := hq
    cases e1
theorem a_cUj {M' : MI} {d' idx n : Nat} {C owner : String} {x : MethodName} {b : Nat} {as : List Value} {P : Int32 → AH → Prop} (hM : AM g d' M' (.ref b :: as) h (eJ P)) (hs : SiteU M.1.cls idx C owner x M' n) (hd : decode M.2.1 pc = .ok (.invokevirtual idx, 3)) (hr : Recv g h b C) (hn : as.length = n) (hst : st0 = as.reverse ++ .ref b :: st) (hdd : d' + 1 ≤ d) (hw : (st.map fun v => v.category).sum ≤ 40) (k : ∀ v h', P v h' → AW g M d Q (pc + 3) ls (.int v :: st) h') : AW g M d Q pc ls st0 h := by
  refine a_cU hM hs hd hr hn hst hdd hw (fun w h2 hq => ?_) (fun x h2 hq => ?_)
  · obtain ⟨r, e1, e2⟩ := hq
    cases e1; exact k _ _ e2
  · obtain ⟨r, e1, e2⟩ := hq
    cases e1
theorem a_cSe {M' : MI} {d' idx n : Nat}  {as : List Value} {v : Int32} {P : AH → Prop} (hM : AM g d' M' (as) h (eI v P)) (hs : SiteS M.1.cls idx M' n) (hd : decode M.2.1 pc = .ok (.invokestatic idx, 3)) (hn : as.length = n) (hst : st0 = as.reverse ++ st) (hdd : d' + 1 ≤ d) (hw : (st.map fun v => v.category).sum ≤ 40) (k : ∀ h', P h' → AW g M d Q (pc + 3) ls (.int v :: st) h') : AW g M d Q pc ls st0 h := by
  refine a_cS hM hs hd hn hst hdd hw (fun w h2 hq => ?_) (fun x h2 hq => ?_)
  · obtain ⟨e1, e2⟩ := hq
    cases e1; exact k _ e2
  · obtain ⟨e1, e2⟩ := hq
    cases e1
theorem a_cSw {M' : MI} {d' idx n : Nat}  {as : List Value} {P : AH → Prop} (hM : AM g d' M' (as) h (eV P)) (hs : SiteS M.1.cls idx M' n) (hd : decode M.2.1 pc = .ok (.invokestatic idx, 3)) (hn : as.length = n) (hst : st0 = as.reverse ++ st) (hdd : d' + 1 ≤ d) (hw : (st.map fun v => v.category).sum ≤ 40) (k : ∀ h', P h' → AW g M d Q (pc + 3) ls st h') : AW g M d Q pc ls st0 h := by
  refine a_cS hM hs hd hn hst hdd hw (fun w h2 hq => ?_) (fun x h2 hq => ?_)
  · obtain ⟨e1, e2⟩ := hq
    cases e1; exact k _ e2
  · obtain ⟨e1, e2⟩ := hq
    cases e1
theorem a_cSq {M' : MI} {d' idx n : Nat}  {as : List Value} {P : Nat → AH → Prop} (hM : AM g d' M' (as) h (eR P)) (hs : SiteS M.1.cls idx M' n) (hd : decode M.2.1 pc = .ok (.invokestatic idx, 3)) (hn : as.length = n) (hst : st0 = as.reverse ++ st) (hdd : d' + 1 ≤ d) (hw : (st.map fun v => v.category).sum ≤ 40) (k : ∀ r h', P r h' → AW g M d Q (pc + 3) ls (.ref r :: st) h') : AW g M d Q pc ls st0 h := by
  refine a_cS hM hs hd hn hst hdd hw (fun w h2 hq => ?_) (fun x h2 hq => ?_)
  · obtain ⟨r, e1, e2⟩ := hq
    cases e1; exact k _ _ e2
  · obtain ⟨r, e1, e2⟩ := hq
    cases e1
theorem a_cSj {M' : MI} {d' idx n : Nat}  {as : List Value} {P : Int32 → AH → Prop} (hM : AM g d' M' (as) h (eJ P)) (hs : SiteS M.1.cls idx M' n) (hd : decode M.2.1 pc = .ok (.invokestatic idx, 3)) (hn : as.length = n) (hst : st0 = as.reverse ++ st) (hdd : d' + 1 ≤ d) (hw : (st.map fun v => v.category).sum ≤ 40) (k : ∀ v h', P v h' → AW g M d Q (pc + 3) ls (.int v :: st) h') : AW g M d Q pc ls st0 h := by
  refine a_cS hM hs hd hn hst hdd hw (fun w h2 hq => ?_) (fun x h2 hq => ?_)
  · obtain ⟨r, e1, e2⟩ := hq
    cases e1; exact k _ _ e2
  · obtain ⟨r, e1, e2⟩ := hq
    cases e1
theorem a_cNe {M' : MI} {d' idx n : Nat} {b : Nat} {as : List Value} {v : Int32} {P : AH → Prop} (hM : AM g d' M' (.ref b :: as) h (eI v P)) (hs : SiteI M.1.cls idx M' n) (hd : decode M.2.1 pc = .ok (.invokespecial idx, 3)) (hn : as.length = n) (hst : st0 = as.reverse ++ .ref b :: st) (hdd : d' + 1 ≤ d) (hw : (st.map fun v => v.category).sum ≤ 40) (k : ∀ h', P h' → AW g M d Q (pc + 3) ls (.int v :: st) h') : AW g M d Q pc ls st0 h := by
  refine a_cN hM hs hd hn hst hdd hw (fun w h2 hq => ?_) (fun x h2 hq => ?_)
  · obtain ⟨e1, e2⟩ := hq
    cases e1; exact k _ e2
  · obtain ⟨e1, e2⟩ := hq
    cases e1
theorem a_cNw {M' : MI} {d' idx n : Nat} {b : Nat} {as : List Value} {P : AH → Prop} (hM : AM g d' M' (.ref b :: as) h (eV P)) (hs : SiteI M.1.cls idx M' n) (hd : decode M.2.1 pc = .ok (.invokespecial idx, 3)) (hn : as.length = n) (hst : st0 = as.reverse ++ .ref b :: st) (hdd : d' + 1 ≤ d) (hw : (st.map fun v => v.category).sum ≤ 40) (k : ∀ h', P h' → AW g M d Q (pc + 3) ls st h') : AW g M d Q pc ls st0 h := by
  refine a_cN hM hs hd hn hst hdd hw (fun w h2 hq => ?_) (fun x h2 hq => ?_)
  · obtain ⟨e1, e2⟩ := hq
    cases e1; exact k _ e2
  · obtain ⟨e1, e2⟩ := hq
    cases e1
theorem a_cNq {M' : MI} {d' idx n : Nat} {b : Nat} {as : List Value} {P : Nat → AH → Prop} (hM : AM g d' M' (.ref b :: as) h (eR P)) (hs : SiteI M.1.cls idx M' n) (hd : decode M.2.1 pc = .ok (.invokespecial idx, 3)) (hn : as.length = n) (hst : st0 = as.reverse ++ .ref b :: st) (hdd : d' + 1 ≤ d) (hw : (st.map fun v => v.category).sum ≤ 40) (k : ∀ r h', P r h' → AW g M d Q (pc + 3) ls (.ref r :: st) h') : AW g M d Q pc ls st0 h := by
  refine a_cN hM hs hd hn hst hdd hw (fun w h2 hq => ?_) (fun x h2 hq => ?_)
  · obtain ⟨r, e1, e2⟩ := hq
    cases e1; exact k _ _ e2
  · obtain ⟨r, e1, e2⟩ := hq
    cases e1
theorem a_cNj {M' : MI} {d' idx n : Nat} {b : Nat} {as : List Value} {P : Int32 → AH → Prop} (hM : AM g d' M' (.ref b :: as) h (eJ P)) (hs : SiteI M.1.cls idx M' n) (hd : decode M.2.1 pc = .ok (.invokespecial idx, 3)) (hn : as.length = n) (hst : st0 = as.reverse ++ .ref b :: st) (hdd : d' + 1 ≤ d) (hw : (st.map fun v => v.category).sum ≤ 40) (k : ∀ v h', P v h' → AW g M d Q (pc + 3) ls (.int v :: st) h') : AW g M d Q pc ls st0 h := by
  refine a_cN hM hs hd hn hst hdd hw (fun w h2 hq => ?_) (fun x h2 hq => ?_)
  · obtain ⟨r, e1, e2⟩ := hq
    cases e1; exact k _ _ e2
  · obtain ⟨r, e1, e2⟩ := hq
    cases e1
theorem a_cPe {M' : MI} {d' idx n : Nat} {C : String} {x : MethodName} {b : Nat} {as : List Value} {v : Int32} {P : AH → Prop} (hM : AM g d' M' (.ref b :: as) h (eI v P)) (hs : SiteP M.1.cls idx x M' n) (hd : decode M.2.1 pc = .ok (.invokespecial idx, 3)) (hr : Recv g h b C) (hn : as.length = n) (hst : st0 = as.reverse ++ .ref b :: st) (hdd : d' + 1 ≤ d) (hw : (st.map fun v => v.category).sum ≤ 40) (k : ∀ h', P h' → AW g M d Q (pc + 3) ls (.int v :: st) h') : AW g M d Q pc ls st0 h := by
  refine a_cP hM hs hd hr hn hst hdd hw (fun w h2 hq => ?_) (fun x h2 hq => ?_)
  · obtain ⟨e1, e2⟩ := hq
    cases e1; exact k _ e2
  · obtain ⟨e1, e2⟩ := hq
    cases e1
theorem a_cPw {M' : MI} {d' idx n : Nat} {C : String} {x : MethodName} {b : Nat} {as : List Value} {P : AH → Prop} (hM : AM g d' M' (.ref b :: as) h (eV P)) (hs : SiteP M.1.cls idx x M' n) (hd : decode M.2.1 pc = .ok (.invokespecial idx, 3)) (hr : Recv g h b C) (hn : as.length = n) (hst : st0 = as.reverse ++ .ref b :: st) (hdd : d' + 1 ≤ d) (hw : (st.map fun v => v.category).sum ≤ 40) (k : ∀ h', P h' → AW g M d Q (pc + 3) ls st h') : AW g M d Q pc ls st0 h := by
  refine a_cP hM hs hd hr hn hst hdd hw (fun w h2 hq => ?_) (fun x h2 hq => ?_)
  · obtain ⟨e1, e2⟩ := hq
    cases e1; exact k _ e2
  · obtain ⟨e1, e2⟩ := hq
    cases e1
theorem a_cPq {M' : MI} {d' idx n : Nat} {C : String} {x : MethodName} {b : Nat} {as : List Value} {P : Nat → AH → Prop} (hM : AM g d' M' (.ref b :: as) h (eR P)) (hs : SiteP M.1.cls idx x M' n) (hd : decode M.2.1 pc = .ok (.invokespecial idx, 3)) (hr : Recv g h b C) (hn : as.length = n) (hst : st0 = as.reverse ++ .ref b :: st) (hdd : d' + 1 ≤ d) (hw : (st.map fun v => v.category).sum ≤ 40) (k : ∀ r h', P r h' → AW g M d Q (pc + 3) ls (.ref r :: st) h') : AW g M d Q pc ls st0 h := by
  refine a_cP hM hs hd hr hn hst hdd hw (fun w h2 hq => ?_) (fun x h2 hq => ?_)
  · obtain ⟨r, e1, e2⟩ := hq
    cases e1; exact k _ _ e2
  · obtain ⟨r, e1, e2⟩ := hq
    cases e1
theorem a_cPj {M' : MI} {d' idx n : Nat} {C : String} {x : MethodName} {b : Nat} {as : List Value} {P : Int32 → AH → Prop} (hM : AM g d' M' (.ref b :: as) h (eJ P)) (hs : SiteP M.1.cls idx x M' n) (hd : decode M.2.1 pc = .ok (.invokespecial idx, 3)) (hr : Recv g h b C) (hn : as.length = n) (hst : st0 = as.reverse ++ .ref b :: st) (hdd : d' + 1 ≤ d) (hw : (st.map fun v => v.category).sum ≤ 40) (k : ∀ v h', P v h' → AW g M d Q (pc + 3) ls (.int v :: st) h') : AW g M d Q pc ls st0 h := by
  refine a_cP hM hs hd hr hn hst hdd hw (fun w h2 hq => ?_) (fun x h2 hq => ?_)
  · obtain ⟨r, e1, e2⟩ := hq
    cases e1; exact k _ _ e2
  · obtain ⟨r, e1, e2⟩ := hq
    cases e1
theorem a_cFe {M' : MI} {d' idx n : Nat} {C : String} {x : MethodName} {b count : Nat} {as : List Value} {v : Int32} {P : AH → Prop} (hM : AM g d' M' (.ref b :: as) h (eI v P)) (hs : SiteF M.1.cls idx C x M' n) (hd : decode M.2.1 pc = .ok (.invokeinterface idx count, 5)) (hr : Recv g h b C) (hn : as.length = n) (hst : st0 = as.reverse ++ .ref b :: st) (hdd : d' + 1 ≤ d) (hw : (st.map fun v => v.category).sum ≤ 40) (k : ∀ h', P h' → AW g M d Q (pc + 5) ls (.int v :: st) h') : AW g M d Q pc ls st0 h := by
  refine a_cF hM hs hd hr hn hst hdd hw (fun w h2 hq => ?_) (fun x h2 hq => ?_)
  · obtain ⟨e1, e2⟩ := hq
    cases e1; exact k _ e2
  · obtain ⟨e1, e2⟩ := hq
    cases e1
theorem a_cFw {M' : MI} {d' idx n : Nat} {C : String} {x : MethodName} {b count : Nat} {as : List Value} {P : AH → Prop} (hM : AM g d' M' (.ref b :: as) h (eV P)) (hs : SiteF M.1.cls idx C x M' n) (hd : decode M.2.1 pc = .ok (.invokeinterface idx count, 5)) (hr : Recv g h b C) (hn : as.length = n) (hst : st0 = as.reverse ++ .ref b :: st) (hdd : d' + 1 ≤ d) (hw : (st.map fun v => v.category).sum ≤ 40) (k : ∀ h', P h' → AW g M d Q (pc + 5) ls st h') : AW g M d Q pc ls st0 h := by
  refine a_cF hM hs hd hr hn hst hdd hw (fun w h2 hq => ?_) (fun x h2 hq => ?_)
  · obtain ⟨e1, e2⟩ := hq
    cases e1; exact k _ e2
  · obtain ⟨e1, e2⟩ := hq
    cases e1
theorem a_cFq {M' : MI} {d' idx n : Nat} {C : String} {x : MethodName} {b count : Nat} {as : List Value} {P : Nat → AH → Prop} (hM : AM g d' M' (.ref b :: as) h (eR P)) (hs : SiteF M.1.cls idx C x M' n) (hd : decode M.2.1 pc = .ok (.invokeinterface idx count, 5)) (hr : Recv g h b C) (hn : as.length = n) (hst : st0 = as.reverse ++ .ref b :: st) (hdd : d' + 1 ≤ d) (hw : (st.map fun v => v.category).sum ≤ 40) (k : ∀ r h', P r h' → AW g M d Q (pc + 5) ls (.ref r :: st) h') : AW g M d Q pc ls st0 h := by
  refine a_cF hM hs hd hr hn hst hdd hw (fun w h2 hq => ?_) (fun x h2 hq => ?_)
  · obtain ⟨r, e1, e2⟩ := hq
    cases e1; exact k _ _ e2
  · obtain ⟨r, e1, e2⟩ := hq
    cases e1
theorem a_cFj {M' : MI} {d' idx n : Nat} {C : String} {x : MethodName} {b count : Nat} {as : List Value} {P : Int32 → AH → Prop} (hM : AM g d' M' (.ref b :: as) h (eJ P)) (hs : SiteF M.1.cls idx C x M' n) (hd : decode M.2.1 pc = .ok (.invokeinterface idx count, 5)) (hr : Recv g h b C) (hn : as.length = n) (hst : st0 = as.reverse ++ .ref b :: st) (hdd : d' + 1 ≤ d) (hw : (st.map fun v => v.category).sum ≤ 40) (k : ∀ v h', P v h' → AW g M d Q (pc + 5) ls (.int v :: st) h') : AW g M d Q pc ls st0 h := by
  refine a_cF hM hs hd hr hn hst hdd hw (fun w h2 hq => ?_) (fun x h2 hq => ?_)
  · obtain ⟨r, e1, e2⟩ := hq
    cases e1; exact k _ _ e2
  · obtain ⟨r, e1, e2⟩ := hq
    cases e1
end
/-- iterate f 0, f 1, .. -/
def itN {α : Type} (f : Nat → α → α) : Nat → α → α
  | 0, a => a
  | n + 1, a => f n (itN f n a)
/-- the same but for ints at some places -/
def Sm (S : List Nat) (h h' : AH) : Prop := h'.2 = h.2 ∧ ∀ a, a ∉ S → ∀ k, gI h' a k = gI h a k
theorem Sm.rf {S : List Nat} (h : AH) : Sm S h h := ⟨rfl, fun _ _ _ => rfl⟩
theorem Sm.pI {S : List Nat} {h h' : AH} (q : Sm S h h') (a k : Nat) (v : Int32) (ha : a ∈ S := by decide) : Sm S h (pI h' a k v) := by
  refine ⟨q.1, fun b hb j => ?_⟩
  rw [gI_pI, if_neg (show ¬ b = a from fun e => hb (e ▸ ha))]
  exact q.2 b hb j
theorem Sm.tr {S : List Nat} {h h' h2 : AH} (p : Sm S h h') (q : Sm S h' h2) : Sm S h h2 :=
  ⟨q.1.trans p.1, fun a ha k => (q.2 a ha k).trans (p.2 a ha k)⟩
theorem Sm.mono {S T : List Nat} {h h' : AH} (p : Sm S h h') (hs : ∀ a, a ∈ S → a ∈ T := by decide) : Sm T h h' :=
  ⟨p.1, fun a ha k => p.2 a (fun z => ha (hs a z)) k⟩
theorem Sm.gR {S : List Nat} {h h' : AH} (p : Sm S h h') : gR h' = gR h := congrArg (fun q => q.1) p.1
theorem Sm.gS {S : List Nat} {h h' : AH} (p : Sm S h h') : gS h' = gS h := congrArg (fun q => q.2.1) p.1
theorem Sm.gN {S : List Nat} {h h' : AH} (p : Sm S h h') : gN h' = gN h := congrArg (fun q => q.2.2.1) p.1
theorem Sm.gZ {S : List Nat} {h h' : AH} (p : Sm S h h') : gZ h' = gZ h := congrArg (fun q => q.2.2.2) p.1
theorem Fx.sm {S : List Nat} {h h' : AH} (hx : Fx h) (p : Sm S h h') : Fx h' := by
  unfold Fx
  rw [p.gR, p.gS, p.gN]
  exact hx
theorem ix40 (i j : Nat) : 40 * nI i + nI j = nI (40 * i + j) := by rw [show (40 : Int32) = nI 40 from rfl, pk_mul, nI_add]
theorem ix37 (i j : Nat) : 37 * nI i + nI j = nI (37 * i + j) := by rw [show (37 : Int32) = nI 37 from rfl, pk_mul, nI_add]
