/-! ===== call sites by their kinds ===== -/
/-- the object b is of the class C -/
def Recv (g : Gl) (h : AH) (b : Nat) (C : String) : Prop := ∀ (s : State) (H : Heap) (locs : List Loc) (h0 : AH), Sx g h0 s → Rt g h0 h s.heap H locs → ∃ cellB : Cell, H[ad g b]? = some cellB ∧ cellB.vm.isStatics = false ∧ s.vm.findClass C = some cellB.cls ∧ ∃ kB : Class, s.vm.classes[cellB.cls]? = some kB
theorem recv_obj {g : Gl} {h : AH} {b t len : Nat} (ht : kOk t = true) (hs : gS h b = (t, len)) (hb : 30 ≤ b) (hn : b < gN h) : Recv g h b (kC t) := by
  intro s H locs h0 hS hR
  obtain ⟨cell, g1, g2, g3, -⟩ := Co.obj hR.1 hb hn hs ht
  have hc := (hS.1.2.2.2.1 t ht).2
  exact ⟨cell, g1, by rw [g3]; rfl, by rw [g2]; exact hc.1, by rw [g2]; obtain ⟨-, k, hk, -⟩ := hc; exact ⟨k, hk⟩⟩
theorem recv_str {g : Gl} {h : AH} {i : Nat} (hi : i < 9) : Recv g h i "java/lang/String" := by
  intro s H locs h0 hS hR
  obtain ⟨cell, h1, h2, h3⟩ := vk_recv hS.2.1.2.2.2.1 hi hR.2.1
  exact ⟨cell, h1, h2, h3, Vm.classAt_of_findClass h3⟩
def plainN (C : String) : Bool := !(C == "java/lang/invoke/MethodHandle") && !(C == "java/lang/invoke/VarHandle")
theorem plainN_ne {C : String} (h : plainN C = true) : C ≠ "java/lang/invoke/MethodHandle" ∧ C ≠ "java/lang/invoke/VarHandle" := by
  simpa [plainN] using h
def nPar (y : MethodName) : Option Nat := (parseMethodDescriptor y.desc).map (fun d => d.parameters.length)
theorem nPar_len {y : MethodName} {n : Nat} (h : nPar y = some n) : ∀ sig, parseMethodDescriptor y.desc = some sig → n = sig.parameters.length := by
  intro sig hs
  unfold nPar at h
  rw [hs] at h
  exact (Option.some.inj h).symm
/-- invokevirtual of a method that the receiver's class C declares itself, or that is private -/
def SiteV (own : String) (idx : Nat) (C : String) (M' : MI) (n : Nat) : Prop := Cond.methodLink own idx M'.1 ∈ lw_all ∧ Cond.instanceMethod M'.1 ∈ lw_all ∧ Cond.selects C M'.1 M'.1 ∈ lw_all ∧ cwM M' ∈ lw_all ∧ Cond.initialized M'.1.cls ∈ lw_all ∧ plainN M'.1.cls = true ∧ nPar M'.1 = some n ∧ M'.2.2.1 ≤ 13
/-- invokevirtual by a reference x to the class that declares it, or inherits it -/
def SiteU (own : String) (idx : Nat) (C owner : String) (x : MethodName) (M' : MI) (n : Nat) : Prop := Cond.methodLink own idx x ∈ lw_all ∧ Cond.sameMethod x.cls owner x.name x.desc ∈ lw_all ∧ ((∃ M0 : MI, M0.1 = ⟨owner, x.name, x.desc⟩ ∧ Cond.instanceMethod M0.1 ∈ lw_all ∧ cwM M0 ∈ lw_all) ∨ Cond.declares ⟨owner, x.name, x.desc⟩ ∈ lw_tbl) ∧ Cond.selects C x M'.1 ∈ lw_all ∧ Cond.instanceMethod M'.1 ∈ lw_all ∧ cwM M' ∈ lw_all ∧ Cond.initialized M'.1.cls ∈ lw_all ∧ plainN owner = true ∧ nPar x = some n ∧ M'.2.2.1 ≤ 13
/-- invokestatic -/
def SiteS (own : String) (idx : Nat) (M' : MI) (n : Nat) : Prop := (Cond.methodLink own idx M'.1 ∈ lw_all ∨ ∃ host, Cond.methodLinkNest own idx M'.1 host ∈ lw_tbl) ∧ Cond.static M'.1 ∈ lw_all ∧ cwM M' ∈ lw_all ∧ Cond.initialized M'.1.cls ∈ lw_all ∧ plainN M'.1.cls = true ∧ nPar M'.1 = some n ∧ M'.2.2.1 ≤ 13
/-- invokespecial of a constructor -/
def SiteI (own : String) (idx : Nat) (M' : MI) (n : Nat) : Prop := (Cond.methodLink own idx M'.1 ∈ lw_all ∨ ∃ host, Cond.methodLinkNest own idx M'.1 host ∈ lw_tbl) ∧ Cond.instanceMethod M'.1 ∈ lw_all ∧ Cond.code M'.1 M'.2.1 M'.2.2.1 none ∈ lw_all ∧ cwM M' = Cond.code M'.1 M'.2.1 M'.2.2.1 none ∧ M'.1.name = "<init>" ∧ Cond.initialized M'.1.cls ∈ lw_all ∧ plainN M'.1.cls = true ∧ nPar M'.1 = some n ∧ M'.2.2.1 ≤ 13
/-- super.m(..): the reference names the direct superclass, which declares m or inherits it from its own superclass -/
def SiteP (own : String) (idx : Nat) (x : MethodName) (M' : MI) (n : Nat) : Prop := Cond.methodLink own idx x ∈ lw_all ∧ M'.1.name = x.name ∧ M'.1.desc = x.desc ∧ Cond.sameMethod x.cls M'.1.cls x.name x.desc ∈ lw_all ∧ Cond.superclass own x.cls ∈ lw_all ∧ (M'.1.cls = x.cls ∨ Cond.superclass x.cls M'.1.cls ∈ lw_all) ∧ Cond.instanceMethod M'.1 ∈ lw_all ∧ cwM M' ∈ lw_all ∧ x.name ≠ "<init>" ∧ Cond.initialized M'.1.cls ∈ lw_all ∧ nPar M'.1 = some n ∧ M'.2.2.1 ≤ 13
/-- invokeinterface -/
def SiteF (own : String) (idx : Nat) (C : String) (x : MethodName) (M' : MI) (n : Nat) : Prop := Cond.methodLink own idx x ∈ lw_all ∧ (C, x, M'.1) ∈ Fws ∧ Cond.selects C x M'.1 ∈ lw_all ∧ Cond.instanceMethod M'.1 ∈ lw_all ∧ cwM M' ∈ lw_all ∧ Cond.initialized M'.1.cls ∈ lw_all ∧ nPar x = some n ∧ M'.2.2.1 ≤ 13
theorem st_split (ad : Nat → Nat) (as st : List Value) (b : Nat) : (as.reverse ++ Value.ref b :: st).map (trv ad) = (as.map (trv ad)).reverse ++ .ref (ad b) :: st.map (trv ad) := by
  simp [trv]
theorem st_splitS (ad : Nat → Nat) (as st : List Value) : (as.reverse ++ st).map (trv ad) = (as.map (trv ad)).reverse ++ st.map (trv ad) := by
  simp
section
variable {g : Gl} {M : MI} {pc : Nat} {ls : List (Option Value)} {st0 st : List Value} {h : AH}
theorem inv_V {idx n b : Nat} {C : String} {M' : MI} {as : List Value} (hs : SiteV M.1.cls idx C M' n) (hd : decode M.2.1 pc = .ok (.invokevirtual idx, 3)) (hr : Recv g h b C) (hn : as.length = n) (hst : st0 = as.reverse ++ .ref b :: st) : InvS g M M' pc ls st0 st (.ref b :: as) h := by
  intro d p e R s m args below meth c h0 locs lC T hC hR hL X
  subst hst
  obtain ⟨hx, hb, hml, hex, hre, hlk, hnm0, hown, hS, -⟩ := id hC
  obtain ⟨s1, s2, s3, s4, s5, s6, s7, -⟩ := hs
  obtain ⟨cellB, g1, g2, g3, -⟩ := hr s T.heap locs h0 hS hR
  obtain ⟨mk, methM, hnamed, hmethM, hstM, habM⟩ := Cond.instanceMethod_spec (hS.1.1 _ s2 args)
  obtain ⟨mk', methM', cM, hnamed', hmethM', -, -, -, -, -, -, hsigM⟩ := cwM_spec (hS.1.1 _ s4 args)
  cases hnamed.symm.trans hnamed'
  cases hmethM.symm.trans hmethM'
  obtain ⟨c2, r2, m2, q1, q2, q3, q4, kP, hkP, hkPi⟩ := Cond.selects_spec (hS.1.1 _ s3 args)
  cases g3.symm.trans q1
  cases (State.methodFound?_of_named hnamed (plainN_ne s6)).symm.trans q2
  cases hnamed.symm.trans q3
  have hselP : selectMethod e.platform s.vm cellB.cls mk = .method mk := by rw [Launch.admits_selectMethod X.admits]; exact q4
  obtain ⟨vm₁, X₁, hstep₁⟩ := X.invokevirtual hx hown (hS.1.1 _ s1 args) hnamed hmethM hstM hkP hkPi (plainN_ne s6) (a := ad g b) (cell := cellB) g1
    (fun z hz => by rw [hz] at g2; cases g2) hselP hmethM habM hkP hkPi (g := F0 m pc lC ((as.reverse ++ Value.ref b :: st).map (trv (ad g)))) rfl (argsL := as.map (trv (ad g))) (rest := st.map (trv (ad g))) (by rw [List.length_map, hn]; exact nPar_len s7 _ hsigM) (st_split _ _ _ _) (by rw [hb]; exact hd)
  exact ⟨vm₁, mk, X₁, X₁.named hnamed, fun target ht => hstep₁ _ fun acts => by rw [doInvoke_state]; exact ht⟩
theorem inv_U {idx n b : Nat} {C owner : String} {x : MethodName} {M' : MI} {as : List Value} (hs : SiteU M.1.cls idx C owner x M' n) (hd : decode M.2.1 pc = .ok (.invokevirtual idx, 3)) (hr : Recv g h b C) (hn : as.length = n) (hst : st0 = as.reverse ++ .ref b :: st) : InvS g M M' pc ls st0 st (.ref b :: as) h := by
  intro d p e R s m args below meth c h0 locs lC T hC hR hL X
  subst hst
  obtain ⟨hx, hb, hml, hex, hre, hlk, hnm0, hown, hS, -⟩ := id hC
  obtain ⟨s1, s2, s3, s4, s5, s6, s7, s8, s9, -⟩ := hs
  obtain ⟨cellB, g1, g2, g3, -⟩ := hr s T.heap locs h0 hS hR
  have hdec : va_Decl s ⟨owner, x.name, x.desc⟩ := by
    rcases s3 with ⟨M0, e0, e1, e2⟩ | e0
    · obtain ⟨r0, r, a1, a2, a3, -⟩ := Cond.instanceMethod_spec (hS.1.1 _ e1 args)
      obtain ⟨r0', r', c0, b1, b2, -, -, -, -, -, -, b3⟩ := cwM_spec (hS.1.1 _ e2 args)
      cases a1.symm.trans b1
      cases a2.symm.trans b2
      rw [e0] at a1 b3
      exact ⟨r0, r, a1, a2, a3, b3⟩
    · obtain ⟨r0, r, a1, a2, a3, a4⟩ := Cond.declares_spec (va_Nw.use (A := args) rfl (hS.1.2.1 _ e0 rfl))
      exact ⟨r0, r, a1, a2, a3, a4⟩
  obtain ⟨r0, r, hn0, hrm, hstR, hsigR⟩ := hdec
  obtain ⟨cn, ck, r1, hcn, hck, hni, hf, hn1⟩ := Cond.sameMethod_found (hS.1.1 _ s2 args)
  cases hn0.symm.trans hn1
  obtain ⟨mk, methM, hnamed, hmethM, -, habM⟩ := Cond.instanceMethod_spec (hS.1.1 _ s5 args)
  obtain ⟨c2, r2, m2, q1, q2, q3, q4, kP, hkP, hkPi⟩ := Cond.selects_spec (hS.1.1 _ s4 args)
  cases g3.symm.trans q1
  cases hf.symm.trans q2
  cases hnamed.symm.trans q3
  have hselP : selectMethod e.platform s.vm cellB.cls r0 = .method mk := by rw [Launch.admits_selectMethod X.admits]; exact q4
  obtain ⟨vm₁, X₁, hstep₁⟩ := X.invokevirtualUp hx hown (hS.1.1 _ s1 args) (hS.1.1 _ s2 args) (plainN_ne s8) hn0 hrm hstR (a := ad g b) (cell := cellB) g1
    (fun z hz => by rw [hz] at g2; cases g2) hselP hmethM habM hkP hkPi (g := F0 m pc lC ((as.reverse ++ Value.ref b :: st).map (trv (ad g)))) rfl (argsL := as.map (trv (ad g))) (rest := st.map (trv (ad g))) (by rw [List.length_map, hn]; exact nPar_len s9 _ hsigR) (st_split _ _ _ _) (by rw [hb]; exact hd)
  exact ⟨vm₁, mk, X₁, X₁.named hnamed, fun target ht => hstep₁ _ fun acts => by rw [doInvoke_state]; exact ht⟩
theorem inv_S {idx n : Nat} {M' : MI} {as : List Value} (hs : SiteS M.1.cls idx M' n) (hd : decode M.2.1 pc = .ok (.invokestatic idx, 3)) (hn : as.length = n) (hst : st0 = as.reverse ++ st) : InvS g M M' pc ls st0 st as h := by
  intro d p e R s m args below meth c h0 locs lC T hC hR hL X
  subst hst
  obtain ⟨hx, hb, hml, hex, hre, hlk, hnm0, hown, hS, -⟩ := id hC
  obtain ⟨s1, s2, s3, s4, s5, s6, -⟩ := hs
  obtain ⟨mk, methM, cM, hnamed, hmethM, -, -, -, -, -, -, hsigM⟩ := cwM_spec (hS.1.1 _ s3 args)
  have hstatic : methM.isStatic = true := Cond.static_spec hnamed hmethM (hS.1.1 _ s2 args)
  obtain ⟨kP, hkP, -⟩ := className_of_methodNamed hnamed
  have hinitP : kP.init = .initialized := Cond.initialized_spec (findClass_of_methodNamed hnamed) hkP (hS.1.1 _ s4 args)
  rcases s1 with s1 | ⟨host, s1⟩
  · obtain ⟨vm₁, X₁, hstep₁⟩ := X.invokestatic hx hown (hS.1.1 _ s1 args) hnamed hmethM hstatic hkP hinitP (plainN_ne s5) (g := F0 m pc lC ((as.reverse ++ st).map (trv (ad g)))) rfl (argsL := as.map (trv (ad g))) (rest := st.map (trv (ad g))) (by rw [List.length_map, hn]; exact nPar_len s6 _ hsigM) (st_splitS _ _ _) (by rw [hb]; exact hd)
    exact ⟨vm₁, mk, X₁, X₁.named hnamed, fun target ht => hstep₁ _ fun acts => by rw [doInvoke_state]; exact ht⟩
  · obtain ⟨vm₁, X₁, hstep₁⟩ := X.invokestaticNest hx hown (va_Nw.use rfl (hS.1.2.1 _ s1 rfl)) hnamed hmethM hstatic hkP hinitP (plainN_ne s5) (g := F0 m pc lC ((as.reverse ++ st).map (trv (ad g)))) rfl (argsL := as.map (trv (ad g))) (rest := st.map (trv (ad g))) (by rw [List.length_map, hn]; exact nPar_len s6 _ hsigM) (st_splitS _ _ _) (by rw [hb]; exact hd)
    exact ⟨vm₁, mk, X₁, X₁.named hnamed, fun target ht => hstep₁ _ fun acts => by rw [doInvoke_state]; exact ht⟩
theorem inv_I {idx n b : Nat} {M' : MI} {as : List Value} (hs : SiteI M.1.cls idx M' n) (hd : decode M.2.1 pc = .ok (.invokespecial idx, 3)) (hn : as.length = n) (hst : st0 = as.reverse ++ .ref b :: st) : InvS g M M' pc ls st0 st (.ref b :: as) h := by
  intro d p e R s m args below meth c h0 locs lC T hC hR hL X
  subst hst
  obtain ⟨hx, hb, hml, hex, hre, hlk, hnm0, hown, hS, -⟩ := id hC
  obtain ⟨s1, s2, s3, s3', s4, s5, s6, s7, -⟩ := hs
  have hpl : e.platform.magicAccessors = ({} : Platform).magicAccessors := by rw [X.admits.platform]
  have hln : ∀ sig, parseMethodDescriptor M'.1.desc = some sig → (as.map (trv (ad g))).length = sig.parameters.length := fun sig hsg => by rw [List.length_map, hn]; exact nPar_len s7 _ hsg
  rcases s1 with s1 | ⟨host, s1⟩
  · obtain ⟨mk, methM, cM, kP, vm₁, hnamed, hmethM, hcodeM, -, hlocalsM, -, hkP, -, hW₁, hstep₁⟩ := Steps.initColdArgs (e := e) X.here hx X.warmed hpl hown s4 (plainN_ne s6) (hS.1.1 _ s1 args) (hS.1.1 _ s2 args) (hS.1.1 _ s3 args) (f := F0 m pc lC ((as.reverse ++ Value.ref b :: st).map (trv (ad g)))) rfl hln (st_split _ _ _ _) (by rw [hb]; exact hd)
    have X₁ := X.noted hW₁
    exact ⟨vm₁, mk, X₁, X₁.named hnamed, fun target ht => hstep₁ _ fun acts => by rw [doInvoke_state]; exact ht⟩
  · obtain ⟨mk, methM, cM, kP, vm₁, hnamed, hmethM, hcodeM, -, hlocalsM, -, hkP, -, hW₁, hstep₁⟩ := Steps.initColdArgsNest (e := e) X.here hx X.warmed hpl hown s4 (plainN_ne s6) (args := args) (va_Nw.use rfl (hS.1.2.1 _ s1 rfl)) (hS.1.1 _ s2 args) (hS.1.1 _ s3 args) (f := F0 m pc lC ((as.reverse ++ Value.ref b :: st).map (trv (ad g)))) rfl hln (st_split _ _ _ _) (by rw [hb]; exact hd)
    have X₁ := X.noted hW₁
    exact ⟨vm₁, mk, X₁, X₁.named hnamed, fun target ht => hstep₁ _ fun acts => by rw [doInvoke_state]; exact ht⟩
theorem inv_P {idx n b : Nat} {C : String} {x : MethodName} {M' : MI} {as : List Value} (hs : SiteP M.1.cls idx x M' n) (hd : decode M.2.1 pc = .ok (.invokespecial idx, 3)) (hr : Recv g h b C) (hn : as.length = n) (hst : st0 = as.reverse ++ .ref b :: st) : InvS g M M' pc ls st0 st (.ref b :: as) h := by
  intro d p e R s m args below meth c h0 locs lC T hC hR hL X
  subst hst
  obtain ⟨hx, hb, hml, hex, hre, hlk, hnm0, hown, hS, -⟩ := id hC
  obtain ⟨s1, s2, s3, s4, s5, s6, s7, s8, s9, s10, s11, -⟩ := hs
  obtain ⟨cellB, g1, g2, g3, kB, hkB⟩ := hr s T.heap locs h0 hS hR
  obtain ⟨mk, methM, hnamed, hmethM, hstM, habM⟩ := Cond.instanceMethod_spec (hS.1.1 _ s7 args)
  obtain ⟨mk', methM', cM, hnamed', hmethM', -, -, -, -, -, -, hsigM⟩ := cwM_spec (hS.1.1 _ s8 args)
  cases hnamed.symm.trans hnamed'
  cases hmethM.symm.trans hmethM'
  obtain ⟨ps, dk, kp, hps, hdk, hkp, hsuper, -, -, hnid⟩ := Cond.superclass_spec hown (hS.1.1 _ s5 args)
  have hn0 : s.methodNamed? ⟨M'.1.cls, x.name, x.desc⟩ = some mk := by rw [← s2, ← s3]; exact hnamed
  have hsub : s.vm.isSubclass ps mk.cls = true := by
    rcases s6 with e1 | e1
    · have hpm : ps = mk.cls := Option.some.inj (hps.symm.trans (by rw [← e1]; exact findClass_of_methodNamed hnamed))
      rw [hpm]; simp [Vm.isSubclass, Vm.isSubclassAux]
    · obtain ⟨pp, k1, k2, a1, a2, a3, a4, -⟩ := Cond.superclass_spec hps (hS.1.1 _ e1 args)
      have hpm : pp = mk.cls := Option.some.inj (a1.symm.trans (findClass_of_methodNamed hnamed))
      rw [← hpm]
      have hz : 0 < s.vm.classes.size := Nat.lt_of_le_of_lt (Nat.zero_le _) (Array.getElem?_eq_some_iff.mp a3).1
      obtain ⟨k, hk⟩ := Nat.exists_eq_succ_of_ne_zero (Nat.pos_iff_ne_zero.mp hz)
      simp [Vm.isSubclass, Vm.isSubclassAux, a2, a4]
      right
      rw [hk]
      simp [Vm.isSubclassAux]
  obtain ⟨vm₁, X₁, hstep₁⟩ := X.invokespecialUp hx hown (hS.1.1 _ s1 args) (hS.1.1 _ s4 args) hn0 hmethM hstM habM s9 hdk hnid hps hsuper hsub (a := ad g b) (cell := cellB) g1
    (fun z hz => by rw [hz] at g2; cases g2) hkB (g := F0 m pc lC ((as.reverse ++ Value.ref b :: st).map (trv (ad g)))) rfl (argsL := as.map (trv (ad g))) (rest := st.map (trv (ad g))) (by rw [List.length_map, hn]; exact nPar_len s11 _ hsigM) (st_split _ _ _ _) (by rw [hb]; exact hd)
  exact ⟨vm₁, mk, X₁, X₁.named hnamed, fun target ht => hstep₁ _ ht⟩
theorem inv_F {idx n b count : Nat} {C : String} {x : MethodName} {M' : MI} {as : List Value} (hs : SiteF M.1.cls idx C x M' n) (hd : decode M.2.1 pc = .ok (.invokeinterface idx count, 5)) (hr : Recv g h b C) (hn : as.length = n) (hst : st0 = as.reverse ++ .ref b :: st) : InvS g M M' pc ls st0 st (.ref b :: as) h := by
  intro d p e R s m args below meth c h0 locs lC T hC hR hL X
  subst hst
  obtain ⟨hx, hb, hml, hex, hre, hlk, hnm0, hown, hS, -⟩ := id hC
  obtain ⟨s1, s2, s3, s4, s5, s6, s7, -⟩ := hs
  obtain ⟨cellB, g1, g2, g3, kB, hkB⟩ := hr s T.heap locs h0 hS hR
  obtain ⟨f1, f2, f3, f4, f5⟩ := hS.1.2.2.1 _ s2
  have f1 : (Cond.declares x).before #[] s = true := f1
  have f2 : (Cond.interfaceMethod x.cls x.cls x.name x.desc).before #[] s = true := f2
  have f3 : (Cond.publicMethod M'.1).before #[] s = true := f3
  have f4 : (Cond.unhidden C x.name x.desc).before #[] s = true := f4
  have f5 : (Cond.castable C x.cls).before #[] s = true := f5
  obtain ⟨r0, r, hn0, hrm, hstR, hsigR⟩ := Cond.declares_spec f1
  obtain ⟨cL, kL, r1, hcL, hkL, hiL, hfoundL, hn1⟩ := Cond.interfaceMethod_spec f2
  cases hn0.symm.trans hn1
  have hr0cls : r0.cls = cL := Option.some.inj ((findClass_of_methodNamed hn0).symm.trans hcL)
  obtain ⟨hnameR, hdescR⟩ := name_of_methodNamed hn0 hrm
  obtain ⟨mk, methM, hnamed, hmethM, -, habM⟩ := Cond.instanceMethod_spec (hS.1.1 _ s4 args)
  obtain ⟨c2, r2, m2, q1, q2, q3, q4, -⟩ := Cond.selects_spec (hS.1.1 _ s3 args)
  cases g3.symm.trans q1
  cases hfoundL.symm.trans q2
  cases hnamed.symm.trans q3
  have hselP : selectMethod e.platform s.vm cellB.cls r0 = .method mk := by rw [Launch.admits_selectMethod X.admits]; exact q4
  have hpubM : hasFlag methM.accessFlags Acc.public_ = true := Cond.publicMethod_spec hnamed hmethM f3
  have hway : ((cellB.cls :: s.vm.superclasses cellB.cls).any fun k => (declaredIn s.vm r.name r.desc k).any fun (_, z) => z.isPrivate || z.isStatic) = false := by
    rw [hnameR, hdescR]; exact Cond.unhidden_spec g3 f4
  obtain ⟨c3, t3, w1, w2, w3⟩ := Cond.castable_spec f5
  cases g3.symm.trans w1
  cases hcL.symm.trans w2
  obtain ⟨vm₁, X₁, hstep₁⟩ := X.invokeinterface hx hown (hS.1.1 _ s1 args) hn0 hrm hstR (by rw [hr0cls]; exact hkL) hiL (Fws_plain _ s2) (a := ad g b) (cell := cellB) (kcell := kB) g1
    (fun z hz => by rw [hz] at g2; cases g2) hkB (by rw [hr0cls]; exact w3) hselP hmethM hway hpubM habM (g := F0 m pc lC ((as.reverse ++ Value.ref b :: st).map (trv (ad g)))) rfl (argsL := as.map (trv (ad g))) (rest := st.map (trv (ad g))) (by rw [List.length_map, hn]; exact nPar_len s7 _ hsigR) (st_split _ _ _ _) (by rw [hb]; exact hd)
  exact ⟨vm₁, mk, X₁, X₁.named hnamed, fun target ht => hstep₁ _ fun acts => by rw [doInvoke_state]; exact ht⟩
end
