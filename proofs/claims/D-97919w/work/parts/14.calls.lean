/-! ===== calls, with both ends; exceptions ===== -/
theorem Rt.trans {g : Gl} {h0 h h' : AH} {Hs H H' : Heap} {l1 l2 : List Loc} (h1 : Rt g h0 h Hs H l1) (h2 : Rt g h h' H H' l2) : Rt g h0 h' Hs H' (l1 ++ l2) := by
  obtain ⟨a1, a2, a3, a4, a5, a6⟩ := h1
  obtain ⟨b1, b2, b3, b4, b5, b6⟩ := h2
  refine ⟨b1, ⟨Nat.le_trans a2.1 b2.1, fun q q1 q2 => ?_, fun q hq => ?_⟩, Nat.le_trans a3 b3, Nat.le_trans a4 b4, b5, b6⟩
  · rw [b2.2.1 q (Nat.lt_of_lt_of_le q1 a2.1) q2]
    exact a2.2.1 q q1 q2
  · rcases List.mem_append.mp hq with z | z
    · exact a2.2.2 q z
    · exact b2.2.2 q z
theorem Sx.at {g : Gl} {h0 h : AH} {s U : State} {locs : List Loc} (hS : Sx g h0 s) (hW : s.WarmedH U.vm) (hR : Rt g h0 h s.heap U.heap locs) : Sx g h U := by
  obtain ⟨k1, k2, k3, k4, -⟩ := hS
  have hb2 : ad g 22 < gB g := k3.2 22 (by decide)
  refine ⟨k1.warm hW, k2.moved hW.alike hR.2.1.2.1 (by rw [k4.2.1]; omega) hb2, k3, hR.1, hR.2.2.2.2.1, hR.2.2.2.2.2⟩
/-- the callee's end, seen by the caller: it stands again, or the exception is laid over its frame -/
theorem call_any {g : Gl} {M' : MI} {d' : Nat} {av : List Value} {h0 h : AH} {Qc : Outcome → AH → Prop} {p : Program} {e : Env} {R : Room} {s : State} {m : MethodId} {sargs : Array Value} {below : List Frame} {meth : Method} {c : Code} {U : State} {locs : List Loc} {gf : JFrame} {ig : Instr} {len : Nat} {mk : MethodId}
    (hS : Sx g h0 s) (X : Stand p g.1 e R s m sargs below meth c U locs (gN h - gN h0) (gZ h - gZ h0)) (hg : gf.method = m) (hsize : gf.locals.size = c.maxLocals) (hdg : decode c.code gf.pc = .ok (ig, len)) (hW : 2 * gf.monitorRoom + (gf.stack.map fun v => v.category).sum ≤ 40) (hn : U.methodNamed? M'.1 = some mk)
    (hM : AM g d' M' av h Qc) (hR : Rt g h0 h s.heap U.heap locs) (hf : d' + 1 ≤ R.frames) (hl : 64 * (d' + 1) ≤ R.locals) (hc : CAP ≤ R.cells + gN h0) (hz : CAS ≤ R.slots + gZ h0) (hnl : M'.2.2.1 ≤ 13) (hcw : cwM M' ∈ lw_all) (hini : Cond.initialized M'.1.cls ∈ lw_all) :
    ∃ (o : Outcome) (h' : AH), Qc o h' ∧ ∃ (U' : State) (L : List Loc), Stand p g.1 e R s m sargs below meth c U' L (gN h' - gN h0) (gZ h' - gZ h0) ∧ Rt g h0 h' s.heap U'.heap L ∧
      ((∃ v, o = .returned v ∧ Steps p.tables e below (doInvoke e (U.setTop gf) [] mk (av.map (trv (ad g))).toArray).1 (U'.setTop { gf with pc := gf.pc + len, stack := (v.map (trv (ad g))).toList ++ gf.stack })) ∨
       (∃ x, o = .threw x ∧ Steps p.tables e below (doInvoke e (U.setTop gf) [] mk (av.map (trv (ad g))).toArray).1 ((U'.setTop gf).pushFrame (.throwing (ad g x))))) := by
  have hSU := hS.at X.warmed hR
  obtain ⟨-, -, r3, r4, r5, r6⟩ := id hR
  obtain ⟨m9, methY, cY, hn9, hmY, hcY, -, hlY, -⟩ := cwM_spec (hSU.1.1 _ hcw #[])
  cases hn.symm.trans hn9
  obtain ⟨kY', hkY, -⟩ := className_of_methodNamed hn
  have hinitY : kY'.init = .initialized := Cond.initialized_spec (findClass_of_methodNamed hn) hkY (hSU.1.1 _ hini #[])
  have hAt : At U gf.method c below := by rw [hg]; exact X.here
  generalize hS0 : headSpec [cwM M'] (rmA d' h) = S at *
  have hroom : S.room = rmA d' h := by rw [← hS0]; rfl
  have happ : S.appliesLoose M'.1 e.platform (U.calling gf mk (av.map (trv (ad g))).toArray) = true :=
    Spec.appliesLoose_calling (g := gf) hAt hdg hn hkY hinitY
      (X.room_calling (g := gf) (R' := S.room) hsize hmY hcY (by rw [hroom]; exact hf) (by rw [hlY, hroom]; show _ + 64 * d' ≤ R.locals; omega) (by rw [hroom]; show _ + (CAP - gN h) ≤ _; omega) (by rw [hroom]; show _ + (CAS - gZ h) ≤ _; omega))
      (by rw [← hS0]; exact atoms_intro (ws := [cwM M']) (fun w hw => by rw [List.mem_singleton.mp hw]; exact hSU.1.1 _ hcw _))
  obtain ⟨mid, hmid⟩ := hAt.above
  have hfr : (U.setTop gf).frames = (.java gf :: mid) ++ below := by rw [State.frames_setTop' gf hAt.top, hmid]; rfl
  have hM' : MetFree g.1 M'.1 S (fun a U => a = (av.map (trv (ad g))).toArray ∧ Sx g h U) (fun _ _ _ _ _ => True) (fun _ st o t => AE g Qc h st o t) := by rw [← hS0]; exact hM
  obtain ⟨oc, s₂, hsteps, hrun, hend, hq⟩ := Steps.callFree hM' p X.admits X.cas X.clock (acts := []) hfr happ ⟨rfl, hSU.at (State.WarmedH.refl U) ⟨hSU.2.2.2.1, va_S.rf, Nat.le_refl _, Nat.le_refl _, hSU.2.2.2.2.1, hSU.2.2.2.2.2⟩⟩ trivial
  have hq : AE g Qc h (U.calling gf mk (av.map (trv (ad g))).toArray) oc s₂ := hq
  rw [State.frames_setTop' gf hAt.top] at hend
  obtain ⟨o, h', L, he, hQ, hW₂, ⟨e2, q2, q3, q4, q5, q6⟩, hRt⟩ := hq
  have hRt : Rt g h h' U.heap s₂.heap L := hRt
  have hRt2 := hR.trans hRt
  have e3 : s₂ = ({ (U.calling gf mk (av.map (trv (ad g))).toArray).setFrames s₂.frames with heap := s₂.heap, slotsUsed := s₂.slotsUsed } : State).setVm s₂.vm := by
    have : s₂ = ({ s₂ with vm := (U.calling gf mk (av.map (trv (ad g))).toArray).vm } : State).setVm s₂.vm := rfl
    rw [e2] at this
    exact this
  have hW' : U.WarmedH s₂.vm := hW₂
  obtain ⟨g₀, hg0⟩ := Option.isSome_iff_exists.mp hAt.top
  obtain ⟨r, hr⟩ := State.topJava?_eq_some.mp hg0
  have hsame : U.sameButNew ({ U with heap := s₂.heap, slotsUsed := s₂.slotsUsed } : State) L (gN h' - gN h) (gZ h' - gZ h) := by
    refine ⟨?_, q2, q3, q4, q5, q6⟩
    obtain ⟨t, ht, -⟩ := State.frames_cons hr
    show ({ U with heap := s₂.heap, slotsUsed := s₂.slotsUsed } : State) = { U.setFrames U.frames with heap := s₂.heap, slotsUsed := s₂.slotsUsed }
    rw [State.setFrames_self ht]
  have hX : Stand p g.1 e R s m sargs below meth c (({ U with heap := s₂.heap, slotsUsed := s₂.slotsUsed } : State).setVm s₂.vm) (locs ++ L) (gN h' - gN h0) (gZ h' - gZ h0) := by
    have hs := X.same.trans (hsame.setVm s.vm)
    obtain ⟨-, -, t3, t4, -⟩ := hRt
    rw [show gN h - gN h0 + (gN h' - gN h) = gN h' - gN h0 by omega, show gZ h - gZ h0 + (gZ h' - gZ h) = gZ h' - gZ h0 by omega] at hs
    exact ⟨X.admits, X.cas, X.clock, X.frames, X.room, X.hears, X.method, X.code, (X.here.setHeapUsed s₂.heap s₂.slotsUsed).setVm hW'.alike, X.tail, State.WarmedH.trans X.warmed hW', X.limits, X.bytes, hs⟩
  refine ⟨o, h', hQ, _, _, hX, hRt2, ?_⟩
  have hr' : (({ U with heap := s₂.heap, slotsUsed := s₂.slotsUsed } : State).setVm s₂.vm).frames = .java g₀ :: r := hr
  cases o with
  | returned v =>
    have he : oc = .returned (v.map (trv (ad g))) := he
    subst he
    obtain ⟨c₂, i₂, len₂, hc₂, hd₂, hf₂⟩ := hend
    have hcc : c₂ = c := by
      have h1 : s₂.code? gf.method = U.code? gf.method := by rw [State.code?_eq, State.code?_eq, hW'.alike.method?]
      exact Option.some.inj (hc₂.symm.trans (h1.trans hAt.code))
    subst hcc
    have hlen : len₂ = len := by rw [hdg] at hd₂; cases hd₂; rfl
    subst hlen
    refine Or.inl ⟨v, rfl, ?_⟩
    have hs₂ : s₂ = (({ U with heap := s₂.heap, slotsUsed := s₂.slotsUsed } : State).setVm s₂.vm).setTop { gf with pc := gf.pc + len₂, stack := (v.map (trv (ad g))).toList ++ gf.stack } := by
      refine e3.trans ?_
      rw [hf₂, State.calling_eq hAt.top, State.setFrames_setFrames, State.setTop_of_frames _ hr', hr]
      rfl
    rw [← hs₂]
    exact hsteps
  | threw x =>
    have he : oc = .threw (ad g x) := he
    subst he
    have hf₂ : s₂.frames = .throwing (ad g x) :: .java gf :: U.frames.tail := hend
    refine Or.inr ⟨x, rfl, ?_⟩
    have hs₂ : s₂ = ((({ U with heap := s₂.heap, slotsUsed := s₂.slotsUsed } : State).setVm s₂.vm).setTop gf).pushFrame (.throwing (ad g x)) := by
      refine e3.trans ?_
      rw [hf₂, State.calling_eq hAt.top, State.setFrames_setFrames, State.pushFrame, State.frames_setTop _ hr', State.setTop_of_frames _ hr', State.setFrames_setFrames, hr]
      rfl
    rw [← hs₂]
    exact hsteps
/-- how an invoking instruction comes to its method: from every state at which the caller stands -/
def InvS (g : Gl) (M M' : MI) (pc : Nat) (ls : List (Option Value)) (st0 st : List Value) (av : List Value) (h : AH) : Prop :=
  ∀ (d : Nat) (p : Program) (e : Env) (R : Room) (s : State) (m : MethodId) (args : Array Value) (below : List Frame) (meth : Method) (c : Code) (h0 : AH) (locs : List Loc) (lC : Array Slot) (T : State),
    Cx g M d p R s m meth c h0 → Rt g h0 h s.heap T.heap locs → LsOK (ad g) M.2.2.1 ls lC → Stand p g.1 e R s m args below meth c T locs (gN h - gN h0) (gZ h - gZ h0) →
    ∃ (vm₁ : Vm) (mk : MethodId), Stand p g.1 e R s m args below meth c (T.setVm vm₁) locs (gN h - gN h0) (gZ h - gZ h0) ∧ (T.setVm vm₁).methodNamed? M'.1 = some mk ∧
      ∀ target, Steps p.tables e below (doInvoke e ((T.setVm vm₁).setTop (F0 m pc lC (st.map (trv (ad g))))) [] mk (av.map (trv (ad g))).toArray).1 target → Steps p.tables e below (T.setTop (F0 m pc lC (st0.map (trv (ad g))))) target
theorem cat_map (ad : Nat → Nat) (st : List Value) : ((st.map (trv ad)).map fun v => v.category) = st.map fun v => v.category := by
  rw [List.map_map]
  exact List.map_congr_left (fun v _ => trv_cat ad v)
section
variable {g : Gl} {M : MI} {d : Nat} {Q : Outcome → AH → Prop} {pc : Nat} {ls : List (Option Value)} {st : List Value} {h : AH}
theorem a_call {M' : MI} {d' len : Nat} {av st0 : List Value} {Qc : Outcome → AH → Prop} {ig : Instr} (hI : InvS g M M' pc ls st0 st av h) (hd : decode M.2.1 pc = .ok (ig, len)) (hM : AM g d' M' av h Qc) (hdd : d' + 1 ≤ d) (hw : (st.map fun v => v.category).sum ≤ 40) (hnl : M'.2.2.1 ≤ 13) (hcw : cwM M' ∈ lw_all) (hini : Cond.initialized M'.1.cls ∈ lw_all)
    (kr : ∀ v h', Qc (.returned v) h' → AW g M d Q (pc + len) ls (v.toList ++ st) h') (kt : ∀ x h', Qc (.threw x) h' → AT g M d Q pc ls x h') : AW g M d Q pc ls st0 h := by
  intro p e R s m args below meth c h0 H locs lC hC hR hL T hT X
  subst hT
  obtain ⟨vm₁, mk, X₁, hnm, hst⟩ := hI d p e R s m args below meth c h0 locs lC T hC hR hL X
  obtain ⟨hx, hb, hml, hex, hre, hlk, hnm0, hown, hS, hfr, hlo, hce, hsl⟩ := id hC
  obtain ⟨o, h', hQ, U', L, X', hR', hend⟩ := call_any (gf := F0 m pc lC (st.map (trv (ad g)))) hS X₁ rfl (by rw [hml]; exact hL.1) (by rw [hb]; exact hd) (by show 2 * 0 + _ ≤ 40; rw [cat_map]; omega) hnm hM hR (by omega) (by omega) hce hsl hnl hcw hini
  rcases hend with ⟨v, rfl, hs⟩ | ⟨x, rfl, hs⟩
  · obtain ⟨t, a1, b1⟩ := kr v h' hQ p e R s m args below meth c h0 U'.heap L lC hC hR' hL U' rfl X'
    refine ⟨t, hst _ (hs.trans ?_), b1⟩
    have hm : (v.toList ++ st).map (trv (ad g)) = (v.map (trv (ad g))).toList ++ st.map (trv (ad g)) := by cases v <;> simp
    rw [hm] at a1
    exact a1
  · obtain ⟨t, a1, b1⟩ := kt x h' hQ p e R s m args below meth c h0 U'.heap L lC (st.map (trv (ad g))) hC hR' hL U' rfl X'
    exact ⟨t, hst _ (hs.trans a1), b1⟩
/-- an exception leaves the method -/
theorem a_leave {a : Nat} (hout : M.2.2.2.2.all (fun x => !(decide (x.1 ≤ pc) && decide (pc < x.2.1))) = true) (hq : Q (.threw a) h) : AT g M d Q pc ls a h := by
  intro p e R s m args below meth c h0 H locs lC stC hC hR hL T hT X
  subst hT
  obtain ⟨hx, hb, hml, hex, hre, hlk, hnm0, hown, hS, hfr, hlo, hce, hsl⟩ := id hC
  have hout2 : ∀ x ∈ c.exceptionTable.toList, covers x pc = false := by
    intro x hx2
    have h1 : (x.startPc, x.endPc, x.handlerPc, x.catchType) ∈ M.2.2.2.2 := by rw [← hex]; exact List.mem_map.mpr ⟨x, hx2, rfl⟩
    have h2 := List.all_eq_true.mp hout _ h1
    have h3 : pc < x.startPc ∨ x.endPc ≤ pc := by simpa using h2
    simp only [covers, Bool.and_eq_false_imp, decide_eq_true_eq, decide_eq_false_iff_not]
    omega
  obtain ⟨st, q1, q2, q3, q4⟩ := X.leaveThrown (ad g a) (g := F0 m pc lC stC) rfl rfl rfl hout2 hlk
  refine ⟨_, st, .threw (ad g a), q1, q2, .threw a, h, locs, rfl, hq, q3, q4, hR⟩
theorem a_athrow {a : Nat} (hd : decode M.2.1 pc = .ok (.athrow, 1)) (k : AT g M d Q pc ls a h) : AW g M d Q pc ls (.ref a :: st) h := by
  intro p e R s m args below meth c h0 H locs lC hC hR hL T hT X
  obtain ⟨t, a1, b1⟩ := k p e R s m args below meth c h0 H locs lC (st.map (trv (ad g))) hC hR hL T hT X
  refine ⟨t, ?_, b1⟩
  have hd2 : decode c.code pc = .ok (.athrow, 1) := by rw [hC.2.1]; exact hd
  have hst : (F0 m pc lC ((Value.ref a :: st).map (trv (ad g)))).stack = .ref (ad g a) :: st.map (trv (ad g)) := rfl
  jvm_step X.here [X.here.top, hC.1, hd2, athrow.wp_sem, hst]
  exact a1
end
