/-! ===== an exception is caught: the catch type may be resolved there for the first time ===== -/
theorem go_cold {E : CtlPost} {e : Env} {d : Bool} {acts : List Action} {s : State} {f : JFrame} {a : Addr} {Q : Handler → Pre} {x : ExceptionTableEntry} {t : List ExceptionTableEntry} {c : ClassId} {cell : Cell} {vm' : Vm} (hx : covers x f.pc = true) (h0 : x.catchType ≠ 0)
    (hg : (Jvm.resolveClass f.method.cls x.catchType).Gives e.toSetting s.vm (.ok c) vm') (hsz : vm'.classes.size ≤ s.vm.classes.size) (hcell : s.heap[a]? = some cell) (hobj : ∀ k, cell.vm ≠ .statics k)
    (hk : ∃ k, vm'.classes[cell.cls]? = some k) (hc : ∃ k, vm'.classes[c]? = some k) :
    wp (findHandler.go f a (x :: t)) Q E e d acts s ↔ if vm'.assignable cell.cls c = true then Q (.found x.handlerPc) d acts (s.setVm vm') else wp (findHandler.go f a t) Q E e d acts (s.setVm vm') := by
  obtain ⟨ha, ht⟩ := hg.op (op := VmOp.resolveClass f.method.cls x.catchType) rfl
  simp only [covers] at hx
  have hcell' : (s.setVm vm').heap[a]? = some cell := hcell
  cases hfit : vm'.assignable cell.cls c <;>
    simp [findHandler.go, hx, h0, ha, ht, hsz, hcell, hobj, hk, hc, hfit, VmOp.dirties, VmOp.acts]
theorem stepThrowing_catchC {e : Env} {s : State} {a : Addr} {f : JFrame} {r : List Frame} {pc : Nat} {vm' : Vm} (hfind : ∀ (Q : Handler → Pre) (E : CtlPost) (d : Bool) (acts : List Action), wp (findHandler f a) Q E e d acts s ↔ Q (.found pc) d acts (s.setVm vm')) :
    (stepThrowing e s a (.java f :: r)).Is ((s.setVm vm').setFrames (.java { f with pc := pc, stack := [.ref a] } :: r)) [] := by
  simp only [stepThrowing, searchFrame, vmDo]
  generalize hr : Sem.go _ e false [] s = res
  obtain ⟨as, rfl, ha⟩ := Sem.eq_ok_of hr (a := Handler.found pc) (s' := s.setVm vm') (acts' := []) (by simp [hfind _ _ _ _])
  exact ⟨rfl, ha⟩
theorem Steps.caughtC {tb : Tables} {e : Env} {s target : State} {g : JFrame} {c : Code} {below : List Frame} {a : Addr} {vm' : Vm} (h : At s g.method c below) {pc : Nat} (hfind : ∀ (Q : Handler → Pre) (E : CtlPost) (d : Bool) (acts : List Action), wp (findHandler g a) Q E e d acts ((s.setTop g).pushFrame (.throwing a)) ↔ Q (.found pc) d acts (((s.setTop g).pushFrame (.throwing a)).setVm vm'))
    (hrest : Steps tb e below ((s.setVm vm').setTop { g with pc := pc, stack := [.ref a] }) target) :
    Steps tb e below ((s.setTop g).pushFrame (.throwing a)) target := by
  obtain ⟨hgo, hw⟩ := h.throwing a
  refine Steps.head hgo hw ?_
  rw [stepThread_throwing (frames_entered h.top _), (stepThrowing_catchC (s := (s.setTop g).pushFrame (.throwing a)) hfind).1]
  obtain ⟨g₀, hg⟩ := Option.isSome_iff_exists.mp h.top
  obtain ⟨r, hr⟩ := State.topJava?_eq_some.mp hg
  have hr' : (s.setVm vm').frames = .java g₀ :: r := hr
  rw [State.setTop_of_frames _ hr'] at hrest
  rw [State.pushFrame, State.setTop_of_frames _ hr, hr]
  have e1 : (((s.setFrames (.java g :: r)).setFrames (.throwing a :: (s.setFrames (.java g :: r)).frames)).setVm vm').setFrames (.java { g with pc := pc, stack := [.ref a] } :: r) = (s.setVm vm').setFrames (.java { g with pc := pc, stack := [.ref a] } :: r) := by
    have e2 : ∀ (u : State) (v : Vm) (fs : List Frame), (u.setVm v).setFrames fs = (u.setFrames fs).setVm v := fun _ _ _ => rfl
    rw [e2, e2, State.setFrames_setFrames, State.setFrames_setFrames]
  exact (congrArg (fun z => Steps tb e below z target) e1).mpr hrest
section
variable {g : Gl} {M : MI} {d : Nat} {Q : Outcome → AH → Prop} {pc : Nat} {ls : List (Option Value)} {h : AH}
/-- the first row of the table takes it -/
theorem a_catch1 {a t len sp ep hp ct : Nat} {r : List (Nat × Nat × Nat × Nat)} (hh : M.2.2.2.2 = (sp, ep, hp, ct) :: r) (hc1 : sp ≤ pc) (hc2 : pc < ep) (hct : ct ≠ 0) (ht : kOk t = true) (hl : Cond.classLink M.1.cls ct (kC t) ∈ lw_all) (hs : gS h a = (t, len)) (ha : 30 ≤ a) (hn : a < gN h) (k : AW g M d Q hp ls [.ref a] h) : AT g M d Q pc ls a h := by
  intro p e R s m args below meth c h0 H locs lC stC hC hR hL T hT X
  subst hT
  obtain ⟨hx, hb, hml, hex, hre, hlk, hnm0, hown, hS, -⟩ := id hC
  obtain ⟨cell, g1, g2, g3, -⟩ := Co.obj hR.1 ha hn hs ht
  have hcls := (hS.1.2.2.2.1 t ht).2
  have hpl : e.platform.magicAccessors = ({} : Platform).magicAccessors := by rw [X.admits.platform]
  obtain ⟨c', hc', hcl⟩ := Cond.classLink_spec hown (hS.1.1 _ hl args) e.platform hpl
  cases hcls.1.symm.trans hc'
  obtain ⟨dk, _, _, kt, hd, _, _, _, _, hkt, _, hopen⟩ := hcl.here
  have hcl₀ := X.warmed.classLinks hcl
  have hW' : s.WarmedH (T.vm.noted m.cls ct (.cls (dC g t))) := X.warmed.noted hd hopen (State.rightAt_cls hcl)
  obtain ⟨kt', hkt', -⟩ := hW'.alike.2.2 _ _ hkt
  rw [hh] at hex
  obtain ⟨x, tb, e1, e2, e3⟩ := List.map_eq_cons_iff.mp hex
  obtain ⟨e4, e5, e6, e7⟩ : x.startPc = sp ∧ x.endPc = ep ∧ x.handlerPc = hp ∧ x.catchType = ct := by simpa using e2
  have hAt : At T (F0 m pc lC stC).method c below := X.here
  have hfind : ∀ (Q' : Handler → Pre) (E : CtlPost) (dd : Bool) (acts : List Action), wp (findHandler (F0 m pc lC stC) (ad g a)) Q' E e dd acts ((T.setTop (F0 m pc lC stC)).pushFrame (.throwing (ad g a))) ↔ Q' (.found hp) dd acts (((T.setTop (F0 m pc lC stC)).pushFrame (.throwing (ad g a))).setVm (T.vm.noted m.cls ct (.cls (dC g t)))) := by
    intro Q' E dd acts
    rw [W.findHandler_eq (meth := meth) (code := c) (by exact X.method') X.code, e1]
    refine (go_cold (s := (T.setTop (F0 m pc lC stC)).pushFrame (.throwing (ad g a))) (f := F0 m pc lC stC) (x := x) (t := tb) (c := dC g t) (cell := cell) (vm' := T.vm.noted m.cls ct (.cls (dC g t))) (by simp only [covers, e4, e5, Bool.and_eq_true, decide_eq_true_eq]; exact ⟨hc1, hc2⟩) (by rw [e7]; exact hct) (by rw [e7]; exact resolveClass_links e.toSetting hcl₀) (by show (T.vm.noted m.cls ct (.cls (dC g t))).classes.size ≤ T.vm.classes.size; no_record) g1 (fun z hz => by rw [g3] at hz; cases hz) ⟨kt', by rw [g2]; exact hkt'⟩ ⟨kt', hkt'⟩).trans ?_
    rw [if_pos (by rw [g2, hW'.alike.assignable]; exact va_assign hcls), e6]
  obtain ⟨t2, a1, b1⟩ := k p e R s m args below meth c h0 T.heap locs lC hC hR hL (T.setVm (T.vm.noted m.cls ct (.cls (dC g t)))) rfl (X.noted hW')
  exact ⟨t2, Steps.caughtC hAt hfind a1, b1⟩
/-- the first row names another class, the second takes it -/
theorem a_catch2 {a t len sp ep hp ct sp2 ep2 hp2 ct2 : Nat} {C : String} {r : List (Nat × Nat × Nat × Nat)} (hh : M.2.2.2.2 = (sp, ep, hp, ct) :: (sp2, ep2, hp2, ct2) :: r) (hc1 : sp ≤ pc) (hc2 : pc < ep) (hct : ct ≠ 0) (hl0 : Cond.classLink M.1.cls ct C ∈ lw_all) (hno : kC t = RX1 ∧ C = RX18) (hc3 : sp2 ≤ pc) (hc4 : pc < ep2) (hct2 : ct2 ≠ 0) (ht : kOk t = true) (hl : Cond.classLink M.1.cls ct2 (kC t) ∈ lw_all) (hs : gS h a = (t, len)) (ha : 30 ≤ a) (hn : a < gN h) (k : AW g M d Q hp2 ls [.ref a] h) : AT g M d Q pc ls a h := by
  intro p e R s m args below meth c h0 H locs lC stC hC hR hL T hT X
  subst hT
  obtain ⟨hx, hb, hml, hex, hre, hlk, hnm0, hown, hS, -⟩ := id hC
  obtain ⟨cell, g1, g2, g3, -⟩ := Co.obj hR.1 ha hn hs ht
  have hcls := (hS.1.2.2.2.1 t ht).2
  have hpl : e.platform.magicAccessors = ({} : Platform).magicAccessors := by rw [X.admits.platform]
  obtain ⟨c0, hc0, hcl0⟩ := Cond.classLink_spec hown (hS.1.1 _ hl0 args) e.platform hpl
  obtain ⟨c', hc', hcl⟩ := Cond.classLink_spec hown (hS.1.1 _ hl args) e.platform hpl
  cases hcls.1.symm.trans hc'
  have hncast : s.vm.assignable (dC g t) c0 = false := by
    obtain ⟨ca', ta, f1, f2, f3⟩ := hS.1.2.2.2.2.2.2.2
    have e1 := hcls.1
    rw [hno.1] at e1
    rw [hno.2] at hc0
    cases f1.symm.trans e1
    cases f2.symm.trans hc0
    exact f3
  obtain ⟨dk0, _, _, kt0, hd0, _, _, _, _, hkt0, _, hopen0⟩ := hcl0.here
  have hcl0' := X.warmed.classLinks hcl0
  have hW0 : s.WarmedH (T.vm.noted m.cls ct (.cls c0)) := X.warmed.noted hd0 hopen0 (State.rightAt_cls hcl0)
  obtain ⟨kt0', hkt0', -⟩ := hW0.alike.2.2 _ _ hkt0
  obtain ⟨dk, _, _, kt, hd, _, _, _, _, hkt, _, hopen⟩ := hcl.here
  have X0 := X.noted hW0
  have hcl₀ := X0.warmed.classLinks hcl
  have hW' : s.WarmedH ((T.vm.noted m.cls ct (.cls c0)).noted m.cls ct2 (.cls (dC g t))) := X0.warmed.noted hd hopen (State.rightAt_cls hcl)
  obtain ⟨kt', hkt', -⟩ := hW'.alike.2.2 _ _ hkt
  obtain ⟨kt1, hkt1, -⟩ := hW0.alike.2.2 _ _ hkt
  rw [hh] at hex
  obtain ⟨x, tb, e1, e2, e3⟩ := List.map_eq_cons_iff.mp hex
  obtain ⟨x2, tb2, e1', e2', e3'⟩ := List.map_eq_cons_iff.mp e3
  obtain ⟨e4, e5, e6, e7⟩ : x.startPc = sp ∧ x.endPc = ep ∧ x.handlerPc = hp ∧ x.catchType = ct := by simpa using e2
  obtain ⟨e4', e5', e6', e7'⟩ : x2.startPc = sp2 ∧ x2.endPc = ep2 ∧ x2.handlerPc = hp2 ∧ x2.catchType = ct2 := by simpa using e2'
  have hAt : At T (F0 m pc lC stC).method c below := X.here
  have hfind : ∀ (Q' : Handler → Pre) (E : CtlPost) (dd : Bool) (acts : List Action), wp (findHandler (F0 m pc lC stC) (ad g a)) Q' E e dd acts ((T.setTop (F0 m pc lC stC)).pushFrame (.throwing (ad g a))) ↔ Q' (.found hp2) dd acts (((T.setTop (F0 m pc lC stC)).pushFrame (.throwing (ad g a))).setVm ((T.vm.noted m.cls ct (.cls c0)).noted m.cls ct2 (.cls (dC g t)))) := by
    intro Q' E dd acts
    rw [W.findHandler_eq (meth := meth) (code := c) (by exact X.method') X.code, e1]
    refine (go_cold (s := (T.setTop (F0 m pc lC stC)).pushFrame (.throwing (ad g a))) (f := F0 m pc lC stC) (x := x) (t := tb) (c := c0) (cell := cell) (vm' := T.vm.noted m.cls ct (.cls c0)) (by simp only [covers, e4, e5, Bool.and_eq_true, decide_eq_true_eq]; exact ⟨hc1, hc2⟩) (by rw [e7]; exact hct) (by rw [e7]; exact resolveClass_links e.toSetting hcl0') (by show (T.vm.noted m.cls ct (.cls c0)).classes.size ≤ T.vm.classes.size; no_record) g1 (fun z hz => by rw [g3] at hz; cases hz) ⟨kt1, by rw [g2]; exact hkt1⟩ ⟨kt0', hkt0'⟩).trans ?_
    rw [if_neg (by rw [g2, hW0.alike.assignable, hncast]; decide), e1']
    refine (go_cold (s := ((T.setTop (F0 m pc lC stC)).pushFrame (.throwing (ad g a))).setVm (T.vm.noted m.cls ct (.cls c0))) (f := F0 m pc lC stC) (x := x2) (t := tb2) (c := dC g t) (cell := cell) (vm' := (T.vm.noted m.cls ct (.cls c0)).noted m.cls ct2 (.cls (dC g t))) (by simp only [covers, e4', e5', Bool.and_eq_true, decide_eq_true_eq]; exact ⟨hc3, hc4⟩) (by rw [e7']; exact hct2) (by rw [e7']; exact resolveClass_links e.toSetting hcl₀) (by show ((T.vm.noted m.cls ct (.cls c0)).noted m.cls ct2 (.cls (dC g t))).classes.size ≤ (T.vm.noted m.cls ct (.cls c0)).classes.size; no_record) g1 (fun z hz => by rw [g3] at hz; cases hz) ⟨kt', by rw [g2]; exact hkt'⟩ ⟨kt', hkt'⟩).trans ?_
    rw [if_pos (by rw [g2, hW'.alike.assignable]; exact va_assign hcls), e6']
    rfl
  obtain ⟨t2, a1, b1⟩ := k p e R s m args below meth c h0 T.heap locs lC hC hR hL (T.setVm ((T.vm.noted m.cls ct (.cls c0)).noted m.cls ct2 (.cls (dC g t)))) rfl (X.noted hW')
  exact ⟨t2, Steps.caughtC hAt hfind a1, b1⟩
end
