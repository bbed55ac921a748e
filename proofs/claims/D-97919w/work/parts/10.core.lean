/-! ===== the core: abstract heaps; the judgements AW (a walk), AT (an exception under way), AM (a contract) ===== -/
abbrev AH : Type := (Nat → Nat → Int32) × (Nat → Nat → Option Nat) × (Nat → Nat × Nat) × Nat × Nat
/-- int, reference, shape (tag, length), number of cells, slots in use -/
def gI (h : AH) (a k : Nat) : Int32 := h.1 a k
def gR (h : AH) (a k : Nat) : Option Nat := h.2.1 a k
def gS (h : AH) (a : Nat) : Nat × Nat := h.2.2.1 a
def gN (h : AH) : Nat := h.2.2.2.1
def gZ (h : AH) : Nat := h.2.2.2.2
def up2 {α : Type} (f : Nat → Nat → α) (a k : Nat) (v : α) : Nat → Nat → α := fun b j => if b = a then (if j = k then v else f b j) else f b j
def pI (h : AH) (a k : Nat) (v : Int32) : AH := (up2 h.1 a k v, h.2)
def pR (h : AH) (a k : Nat) (v : Option Nat) : AH := (h.1, up2 h.2.1 a k v, h.2.2)
def pN (h : AH) (t len sl : Nat) : AH := (fun b j => if b = h.2.2.2.1 then 0 else h.1 b j, fun b j => if b = h.2.2.2.1 then none else h.2.1 b j, fun b => if b = h.2.2.2.1 then (t, len) else h.2.2.1 b, h.2.2.2.1 + 1, h.2.2.2.2 + sl)
/-- the tables' view of a class by its tag: name, fields, how many, which are references; an array's component -/
def kC : Nat → String := fun t => match t with
  | 0 => RX0 | 1 => RX1 | 2 => RX2 | 3 => RX3 | 4 => RX4 | 5 => RX5 | 6 => RX6 | 7 => RX7 | 8 => RX8 | 9 => RX9 | 10 => RX10 | 11 => RX11 | 12 => RX12 | 13 => RX13
  | 15 => RX15 | 16 => RX16 | 17 => RX17 | 18 => RX18 | 19 => RX19 | 20 => RX20 | 22 => RX22 | 23 => RX23 | _ => RX24
def kT : Nat → u_T := fun t => match t with
  | 0 => TX0 | 1 => TX1 | 2 => TX2 | 3 => TX3 | 4 => TX4 | 5 => TX5 | 6 => TX6 | 7 => TX7 | 8 => TX8 | 9 => TX9 | 10 => TX10 | 11 => TX11 | 12 => TX12 | 13 => TX13
  | 15 => TX15 | 16 => TX16 | 17 => TX17 | 18 => TX18 | 19 => TX19 | 20 => TX20 | 22 => TX22 | 23 => TX23 | _ => TX24
def kN : Nat → Nat := fun t => match t with
  | 0 => 12 | 1 => 7 | 2 => 19 | 3 => 1 | 4 => 2 | 5 => 1 | 6 => 25 | 7 => 3 | 8 => 3 | 9 => 3 | 10 => 3 | 11 => 3 | 12 => 3 | 13 => 3
  | 15 => 3 | 16 => 5 | 17 => 1 | 18 => 7 | 19 => 1 | 20 => 1 | 22 => 1 | 23 => 1 | _ => 1
/-- all slots of an object of the class -/
def kM : Nat → Nat := kN
def kY : Nat → Nat → FieldType := fun t k => match t with
  | 0 => tyX0 k | 1 => tyX1 k | 2 => tyX2 k | 3 => tyX3 k | 4 => tyX4 k | 5 => tyX5 k | 6 => tyX6 k | 7 => tyX7 k | 8 => tyX8 k | 9 => tyX9 k | 10 => tyX10 k | 11 => tyX11 k | 12 => tyX12 k | 13 => tyX13 k
  | 15 => tyX15 k | 16 => tyX16 k | 17 => tyX17 k | 18 => tyX18 k | 19 => tyX19 k | 20 => tyX20 k | 22 => tyX22 k | 23 => tyX23 k | _ => tyX24 k
def isRf : FieldType → Bool := fun ty => match ty with
  | .object _ => true | .array _ => true | _ => false
def kF (t k : Nat) : Bool := isRf (kY t k)
def kOk (t : Nat) : Bool := decide (t < 25) && !(t == 14) && !(t == 21)
def kA : Nat → FieldType := fun t => match t with
  | 40 => .int | 41 => .boolean | 42 => .byte | 43 => .short | 44 => .object RX7 | 45 => .object RX14 | _ => .object RX5
/-- the run's own numbers: launch, class numbers and slots, array classes, addresses, the heap's size at the law's start -/
abbrev Gl : Type := Launch × va_G × (Nat → ClassId) × (Nat → Nat) × Nat × Nat × (Nat → Int32)
def ca (g : Gl) : Nat → ClassId := g.2.2.1
def ad (g : Gl) : Nat → Nat := g.2.2.2.1
def gB (g : Gl) : Nat := g.2.2.2.2.1
def gL (g : Gl) : Nat := g.2.2.2.2.2.1
def gX (g : Gl) : Nat → Int32 := g.2.2.2.2.2.2
def dC (g : Gl) : Nat → ClassId := g.2.1.1
def dI (g : Gl) : Nat → Nat → Nat := g.2.1.2
def CAP : Nat := 601054
def CAS : Nat := 7293034
def trv (ad : Nat → Nat) (v : Value) : Value := match v with
  | .ref a => .ref (ad a)
  | w => w
def trO (ad : Nat → Nat) (o : Outcome) : Outcome := match o with
  | .returned v => .returned (v.map (trv ad))
  | .threw a => .threw (ad a)
theorem trv_cat (ad : Nat → Nat) (v : Value) : (trv ad v).category = v.category := by cases v <;> rfl
def rfv (r : Option Nat) : Value := match r with
  | none => .null
  | some a => .ref a
theorem trv_rfv (ad : Nat → Nat) (r : Option Nat) : trv ad (rfv r) = va_rf (r.map ad) := by cases r <;> rfl
/-- what a field holds -/
def fv (ad : Nat → Nat) (h : AH) (a t j : Nat) : Value := if kF t j = true then va_rf ((gR h a j).map ad) else .int (gI h a j)
def Cel (g : Gl) (h : AH) (a : Nat) (H : Heap) : Prop :=
  ((gS h a).1 < 40 ∧ kOk (gS h a).1 = true ∧ t_OB (ad g a) (dC g (gS h a).1) (kN (gS h a).1) (dI g (gS h a).1) H (fv (ad g) h a (gS h a).1)) ∨
  (40 ≤ (gS h a).1 ∧ (gS h a).1 < 44 ∧ H[ad g a]? = some (arrV (ca g (gS h a).1) (gS h a).2 (fun j => .int (gI h a j)))) ∨
  (44 ≤ (gS h a).1 ∧ (gS h a).1 < 47 ∧ H[ad g a]? = some (arrV (ca g (gS h a).1) (gS h a).2 (fun j => va_rf ((gR h a j).map (ad g)))))
def Co (g : Gl) (h : AH) (H : Heap) : Prop := 30 ≤ gN h ∧ H.size = gB g + (gN h - 30) ∧ ∀ a, 30 ≤ a → a < gN h → Cel g h a H
def AdOK (g : Gl) : Prop := (∀ k, 30 ≤ k → ad g k = gB g + (k - 30)) ∧ ∀ k, k < 30 → ad g k < gB g
/-- words beside lw_all that hold all through a run -/
def nwOk : Cond → Bool := fun w => match w with
  | .fieldLinkNest .. => true
  | .methodLinkNest .. => true
  | .castable .. => true
  | .declares .. => true
  | _ => false
def Fws : List (String × MethodName × MethodName) := [(RX7, ⟨"WellNames$Drinks", "drinks", "(I)I"⟩, yX7_drinks), (RX7, ⟨"WellNames$Calls", "calls", "(I)I"⟩, yX7_calls), (RX7, ⟨"WellNames$Owes", "owes", "(I)I"⟩, yX7_owes), (RX7, ⟨"WellNames$Tells", "tells", "(I)I"⟩, yX7_tells), (RX8, ⟨"WellNames$Drinks", "drinks", "(I)I"⟩, yX8_drinks), (RX8, ⟨"WellNames$Calls", "calls", "(I)I"⟩, yX7_calls), (RX8, ⟨"WellNames$Owes", "owes", "(I)I"⟩, yX7_owes), (RX8, ⟨"WellNames$Tells", "tells", "(I)I"⟩, yX7_tells), (RX9, ⟨"WellNames$Drinks", "drinks", "(I)I"⟩, yX7_drinks), (RX9, ⟨"WellNames$Calls", "calls", "(I)I"⟩, yX9_calls), (RX9, ⟨"WellNames$Owes", "owes", "(I)I"⟩, yX7_owes), (RX9, ⟨"WellNames$Tells", "tells", "(I)I"⟩, yX7_tells), (RX10, ⟨"WellNames$Drinks", "drinks", "(I)I"⟩, yX7_drinks), (RX10, ⟨"WellNames$Calls", "calls", "(I)I"⟩, yX7_calls), (RX10, ⟨"WellNames$Owes", "owes", "(I)I"⟩, yX10_owes), (RX10, ⟨"WellNames$Tells", "tells", "(I)I"⟩, yX7_tells), (RX11, ⟨"WellNames$Drinks", "drinks", "(I)I"⟩, yX8_drinks), (RX11, ⟨"WellNames$Calls", "calls", "(I)I"⟩, yX7_calls), (RX11, ⟨"WellNames$Owes", "owes", "(I)I"⟩, yX7_owes), (RX11, ⟨"WellNames$Tells", "tells", "(I)I"⟩, yX11_tells), (RX12, ⟨"WellNames$Drinks", "drinks", "(I)I"⟩, yX7_drinks), (RX12, ⟨"WellNames$Calls", "calls", "(I)I"⟩, yX12_calls), (RX12, ⟨"WellNames$Owes", "owes", "(I)I"⟩, yX7_owes), (RX12, ⟨"WellNames$Tells", "tells", "(I)I"⟩, yX7_tells), (RX13, ⟨"WellNames$Drinks", "drinks", "(I)I"⟩, yX7_drinks), (RX13, ⟨"WellNames$Calls", "calls", "(I)I"⟩, yX7_calls), (RX13, ⟨"WellNames$Owes", "owes", "(I)I"⟩, yX13_owes), (RX13, ⟨"WellNames$Tells", "tells", "(I)I"⟩, yX13_tells)]
abbrev MI : Type := MethodName × ByteArray × Nat × Option FieldType × List (Nat × Nat × Nat × Nat)
def cwM (M : MI) : Cond := match M.2.2.2.2 with
  | [] => .code M.1 M.2.1 M.2.2.1 M.2.2.2.1
  | x :: r => .codeWith M.1 M.2.1 M.2.2.1 M.2.2.2.1 (x :: r)
theorem cwM_spec {M : MI} {a : Array Value} {s : State} (h : (cwM M).before a s = true) :
    ∃ m meth c, s.methodNamed? M.1 = some m ∧ s.vm.method? m = some meth ∧ meth.code = some c ∧ c.code = M.2.1 ∧ c.maxLocals = M.2.2.1 ∧
      c.exceptionTable.toList.map (fun h => (h.startPc, h.endPc, h.handlerPc, h.catchType)) = M.2.2.2.2 ∧ meth.sig.returnType = M.2.2.2.1 ∧ meth.locks = false ∧ parseMethodDescriptor M.1.desc = some meth.sig := by
  obtain ⟨y, cc, nL, ret, hh⟩ := M
  cases hh with
  | nil =>
    have h : (Cond.code y cc nL ret).before a s = true := h
    obtain ⟨m, hn⟩ := Cond.code_named h
    obtain ⟨meth, c, h1, h2, h3, h4, h5, h6, h7, h8⟩ := Cond.code_spec hn h
    refine ⟨m, meth, c, hn, h1, h2, h3, h4, ?_, h5, h6, h8⟩
    have h0 : c.exceptionTable.size = 0 := by simpa [Array.isEmpty] using h7
    have h1 : c.exceptionTable.toList = [] := List.eq_nil_of_length_eq_zero (by simpa using h0)
    rw [h1]
    rfl
  | cons x r =>
    have h : (Cond.codeWith y cc nL ret (x :: r)).before a s = true := h
    exact Cond.codeWith_spec h
def sOwn : Nat → String := fun i => match i with
  | 0 => RX0 | 1 => RX0 | _ => RX16
def sIdx : Nat → Nat := fun i => match i with
  | 0 => 194 | 1 => 196 | 2 => 89 | 3 => 99 | 4 => 81 | 5 => 76 | 6 => 71 | 7 => 66 | _ => 52
def sTx : Nat → String := fun i => match i with
  | 0 => "mtd" | 1 => "lmd" | 2 => "!" | 3 => "(" | 4 => "*/%" | 5 => "+-" | 6 => "<=>" | 7 => "&" | _ => "|"
def sLen : List Nat := [3, 3, 1, 1, 3, 2, 3, 1, 1]
def sByt : List (List Int32) := [[109, 116, 100], [108, 109, 100], [33], [40], [42, 47, 37], [43, 45], [60, 61, 62], [38], [124]]
def abv (g : Gl) : Nat → Prop := fun q => gB g ≤ q
/-- what the tables say -/
def Kw (g : Gl) (U : State) : Prop :=
  (∀ w ∈ lw_all, ∀ a, w.before a U = true) ∧ (∀ w ∈ lw_tbl, nwOk w = true → va_Nw w U) ∧ (∀ q ∈ Fws, va_Fw q.1 q.2.1 q.2.2 U) ∧
  (∀ t, kOk t = true → u_Kn U (kC t) (kT t) (kN t) (dC g t) (dI g t)) ∧ (∀ t, 40 ≤ t → t < 47 → ArrOfT U (ca g t) (kA t) ∧ va_RA U (ca g t) (kA t)) ∧
  (∀ C, C = RX7 ∨ C = RX14 ∨ C = RX5 → va_AO C U) ∧ (∀ i, i < 9 → vk_R (sOwn i) (sIdx i) (sTx i) (ad g i) U) ∧ va_Nc RX1 RX18 U
/-- what lies below: statics, text, the script -/
def Ev (g : Gl) (U : State) (H : Heap) : Prop :=
  va_Z "java/lang/String" "COMPACT_STRINGS" "Z" (.int 1) (abv g) U H ∧
  (va_Z "java/lang/Throwable" "UNASSIGNED_STACK" "[Ljava/lang/StackTraceElement;" .null (abv g) U H ∨ va_Z "java/lang/Throwable" "UNASSIGNED_STACK" "[Ljava/lang/StackTraceElement;" (.ref (ad g 20)) (abv g) U H) ∧
  (va_Z "java/lang/Throwable" "SUPPRESSED_SENTINEL" "Ljava/util/List;" .null (abv g) U H ∨ va_Z "java/lang/Throwable" "SUPPRESSED_SENTINEL" "Ljava/util/List;" (.ref (ad g 21)) (abv g) U H) ∧
  vk_S 9 sLen sByt (fun i => ad g i) (fun i => ad g (10 + i)) (abv g) U H ∧ va_X (ad g 22) (gL g) (gX g) U H
theorem Fws_plain : ∀ q ∈ Fws, q.2.1.cls ≠ "java/lang/invoke/MethodHandle" ∧ q.2.1.cls ≠ "java/lang/invoke/VarHandle" := by decide +kernel
theorem Kw.warm {g : Gl} {s U : State} (hW : s.WarmedH U.vm) (h : Kw g s) : Kw g U := by
  obtain ⟨h1, h2, h3, h4, h5, h6, h7, h8⟩ := h
  refine ⟨fun w hw a => word_at hW (lw_self w hw).2 (h1 w hw #[]), fun w hw hn => ?_, fun q hq => va_Fw.moved (Fws_plain q hq) hW.alike (h3 q hq), fun t ht => u_Kn_moved hW.alike (h4 t ht), fun t ha hb => ⟨arrOfT_moved hW.alike (h5 t ha hb).1, (h5 t ha hb).2.moved hW.alike⟩, fun C hC => va_AO.moved hW.alike (h6 C hC), fun i hi => (h7 i hi).warm hW, h8.moved hW.alike⟩
  have hz := h2 w hw hn
  cases w <;> first | exact va_Nw.warmF hW hz | exact va_Nw.warmM hW hz | exact va_Nw.warmC hW hz | exact va_Nw.warmD hW hz | cases hn
theorem Ev.moved {g : Gl} {u U : State} {H H1 : Heap} (hvm : u.vm.Alike U.vm) (hq : ∀ a : Nat, a < H.size → ¬ abv g a → H1[a]? = H[a]?) (hb : ad g 22 < H.size) (hb2 : ad g 22 < gB g) (h : Ev g u H) : Ev g U H1 := by
  obtain ⟨h1, h2, h3, h4, h5⟩ := h
  refine ⟨va_Z.moved hvm (h1.kept hq), ?_, ?_, vk_S.moved hvm (h4.kept hq), va_X.moved hvm (h5.kept (hq _ hb (fun z => absurd hb2 (Nat.not_lt.mpr z))))⟩
  · rcases h2 with h2 | h2
    · exact Or.inl (va_Z.moved hvm (h2.kept hq))
    · exact Or.inr (va_Z.moved hvm (h2.kept hq))
  · rcases h3 with h2 | h2
    · exact Or.inl (va_Z.moved hvm (h2.kept hq))
    · exact Or.inr (va_Z.moved hvm (h2.kept hq))
/-- locals: by their places -/
def lget : List (Option Value) → Nat → Option Value
  | [], _ => none
  | x :: _, 0 => x
  | _ :: r, n + 1 => lget r n
def lset : List (Option Value) → Nat → Value → List (Option Value)
  | [], 0, v => [some v]
  | [], n + 1, v => none :: lset [] n v
  | _ :: r, 0, v => some v :: r
  | x :: r, n + 1, v => x :: lset r n v
theorem lget_lset : ∀ (ls : List (Option Value)) (i : Nat) (v : Value) (j : Nat), lget (lset ls i v) j = if j = i then some v else lget ls j
  | [], 0, v, 0 => by simp [lset, lget]
  | [], 0, v, j + 1 => by simp [lset, lget]
  | [], i + 1, v, 0 => by simp [lset, lget]
  | [], i + 1, v, j + 1 => by
    have h := lget_lset [] i v j
    simp [lset, lget, h]
  | x :: r, 0, v, 0 => by simp [lset, lget]
  | x :: r, 0, v, j + 1 => by simp [lset, lget]
  | x :: r, i + 1, v, 0 => by simp [lset, lget]
  | x :: r, i + 1, v, j + 1 => by
    have h := lget_lset r i v j
    simp [lset, lget, h]
def isL2 : Option Value → Bool := fun v => match v with
  | some (.long _) => true
  | some (.double _) => true
  | _ => false
/-- nothing of two words ends at place i -/
def noL (ls : List (Option Value)) (i : Nat) : Bool := match i with
  | 0 => true
  | i + 1 => !(isL2 (lget ls i))
def lsA : List Value → List (Option Value)
  | [] => []
  | v :: r => if v.category = 2 then some v :: none :: lsA r else some v :: lsA r
def wds (av : List Value) : Nat := (av.map (fun v => v.category)).sum
def LsOK (ad : Nat → Nat) (nL : Nat) (ls : List (Option Value)) (lC : Array Slot) : Prop := lC.size = nL ∧ lv_wf lC ∧ ∀ i v, lget ls i = some v → lC[i]? = some (.val (trv ad v))
def lpr (ad : Nat → Nat) : List (Option Value) → Nat → List (Nat × Value)
  | [], _ => []
  | none :: r, i => lpr ad r (i + 1)
  | some v :: r, i => (i, trv ad v) :: lpr ad r (i + 1)
theorem lpr_mem (ad : Nat → Nat) : ∀ (ls : List (Option Value)) (k i : Nat) (v : Value), lget ls i = some v → (k + i, trv ad v) ∈ lpr ad ls k
  | none :: r, k, 0, v, h => by simp [lget] at h
  | some w :: r, k, 0, v, h => by
    simp [lget] at h
    subst h
    simp [lpr]
  | none :: r, k, i + 1, v, h => by
    have h2 := lpr_mem ad r (k + 1) i v h
    rw [show k + 1 + i = k + (i + 1) by omega] at h2
    exact h2
  | some w :: r, k, i + 1, v, h => by
    have h2 := lpr_mem ad r (k + 1) i v h
    rw [show k + 1 + i = k + (i + 1) by omega] at h2
    exact List.mem_cons_of_mem _ h2
theorem lpr_of (ad : Nat → Nat) : ∀ (ls : List (Option Value)) (k : Nat) (q : Nat × Value), q ∈ lpr ad ls k → ∃ i v, q = (k + i, trv ad v) ∧ lget ls i = some v
  | [], k, q, h => by simp [lpr] at h
  | none :: r, k, q, h => by
    obtain ⟨i, v, e, g⟩ := lpr_of ad r (k + 1) q h
    exact ⟨i + 1, v, by rw [e, show k + 1 + i = k + (i + 1) by omega], g⟩
  | some w :: r, k, q, h => by
    rcases List.mem_cons.mp h with e | h
    · exact ⟨0, w, e, rfl⟩
    · obtain ⟨i, v, e, g⟩ := lpr_of ad r (k + 1) q h
      exact ⟨i + 1, v, by rw [e, show k + 1 + i = k + (i + 1) by omega], g⟩
theorem LsOK.has {ad : Nat → Nat} {nL : Nat} {ls : List (Option Value)} {lC : Array Slot} (h : LsOK ad nL ls lC) : lv_has lC nL (lpr ad ls 0) := by
  refine ⟨h.1, h.2.1, fun q hq => ?_⟩
  obtain ⟨i, v, e, g⟩ := lpr_of ad ls 0 q hq
  subst e
  rw [Nat.zero_add]
  exact h.2.2 i v g
theorem LsOK.set {ad : Nat → Nat} {nL i : Nat} {ls : List (Option Value)} {v w : Value} {lC : Array Slot} (hw : trv ad v = w) (hn : noL ls i = true) (h : lv_has lC nL ((i, w) :: (lpr ad ls 0).filter (fun q => !(q.1 == i) && !(q.1 + 1 == i && q.2.category == 2)))) : LsOK ad nL (lset ls i v) lC := by
  refine ⟨h.1, h.2.1, fun j x hj => ?_⟩
  rw [lget_lset] at hj
  by_cases e : j = i
  · rw [if_pos e] at hj
    cases hj
    subst e
    rw [hw]
    exact h.2.2 (j, w) List.mem_cons_self
  · rw [if_neg e] at hj
    have hm := lpr_mem ad ls 0 j x hj
    rw [Nat.zero_add] at hm
    refine h.2.2 (j, trv ad x) (List.mem_cons_of_mem _ (List.mem_filter.mpr ⟨hm, ?_⟩))
    have h1 : (j == i) = false := by simpa using e
    simp only [h1, Bool.not_false, Bool.true_and, Bool.not_eq_true', Bool.and_eq_false_imp, beq_iff_eq]
    intro e2
    subst e2
    rw [trv_cat]
    have hz : isL2 (lget ls j) = false := by simpa [noL] using hn
    rw [hj] at hz
    cases x <;> simp_all [isL2, Value.category]
def lsub : List (Option Value) → List (Option Value) → Prop
  | [], _ => True
  | none :: r, [] => lsub r []
  | none :: r, _ :: r' => lsub r r'
  | some v :: r, some w :: r' => v = w ∧ lsub r r'
  | some _ :: _, _ => False
theorem lsub_get : ∀ (a b : List (Option Value)), lsub a b → ∀ i v, lget a i = some v → lget b i = some v
  | [], b, _, i, v, h => by simp [lget] at h
  | none :: r, [], h, 0, v, g => by simp [lget] at g
  | none :: r, [], h, i + 1, v, g => by
    have := lsub_get r [] h i v g
    simp [lget] at this
  | none :: r, x :: r', h, 0, v, g => by simp [lget] at g
  | none :: r, x :: r', h, i + 1, v, g => lsub_get r r' h i v g
  | some w :: r, [], h, i, v, g => by simp [lsub] at h
  | some w :: r, none :: r', h, i, v, g => by simp [lsub] at h
  | some w :: r, some u :: r', h, 0, v, g => by
    obtain ⟨e, -⟩ := h
    subst e
    exact g
  | some w :: r, some u :: r', h, i + 1, v, g => lsub_get r r' h.2 i v g
theorem LsOK.sub {ad : Nat → Nat} {nL : Nat} {ls ls' : List (Option Value)} {lC : Array Slot} (h : LsOK ad nL ls lC) (hs : lsub ls' ls) : LsOK ad nL ls' lC := ⟨h.1, h.2.1, fun i v g => h.2.2 i v (lsub_get _ _ hs i v g)⟩
theorem lsA_args (ad : Nat → Nat) : ∀ (av : List Value) (k i : Nat) (v : Value), lget (lsA av) i = some v → (k + i, trv ad v) ∈ lv_args k (av.map (trv ad))
  | [], k, i, v, h => by simp [lsA, lget] at h
  | w :: r, k, i, v, h => by
    by_cases hc : w.category = 2
    · simp only [lsA, hc, if_true] at h
      simp only [List.map_cons, lv_args, trv_cat, hc, if_true]
      match i, h with
      | 0, h =>
        simp [lget] at h
        subst h
        simp
      | 1, h => simp [lget] at h
      | i + 2, h =>
        have h2 := lsA_args ad r (k + 2) i v h
        rw [show k + 2 + i = k + (i + 2) by omega] at h2
        exact List.mem_cons_of_mem _ h2
    · simp only [lsA, hc, if_false] at h
      simp only [List.map_cons, lv_args, trv_cat, hc, if_false]
      match i, h with
      | 0, h =>
        simp [lget] at h
        subst h
        simp
      | i + 1, h =>
        have h2 := lsA_args ad r (k + 1) i v h
        rw [show k + 1 + i = k + (i + 1) by omega] at h2
        exact List.mem_cons_of_mem _ h2
theorem lg_sl_len (ad : Nat → Nat) : ∀ (av : List Value), (lg_sl (av.map (trv ad))).length = wds av
  | [] => rfl
  | v :: r => by
    have ih := lg_sl_len ad r
    have hs : lg_sl ((v :: r).map (trv ad)) = (if (trv ad v).category = 2 then [Slot.val (trv ad v), .second] else [.val (trv ad v)]) ++ lg_sl (r.map (trv ad)) := by simp [lg_sl]
    rw [hs, List.length_append, ih, trv_cat]
    have hw : wds (v :: r) = v.category + wds r := by simp [wds]
    rw [hw]
    rcases lv_cat v with h | h <;> simp [h]
/-! ===== the judgements ===== -/
/-- what has come of the heap since the method's start (abstract h0, concrete Hs) -/
def Rt (g : Gl) (h0 h : AH) (Hs H : Heap) (locs : List Loc) : Prop := Co g h H ∧ va_S (abv g) Hs H locs ∧ gN h0 ≤ gN h ∧ gZ h0 ≤ gZ h ∧ gN h ≤ CAP ∧ gZ h ≤ CAS
def AE (g : Gl) (Q : Outcome → AH → Prop) (h0 : AH) (s : State) (oc : Outcome) (t : State) : Prop :=
  ∃ (o : Outcome) (h' : AH) (L : List Loc), oc = trO (ad g) o ∧ Q o h' ∧ s.WarmedH t.vm ∧ s.sameButNew ({ t with vm := s.vm } : State) L (gN h' - gN h0) (gZ h' - gZ h0) ∧ Rt g h0 h' s.heap t.heap L
def AQ (g : Gl) (Q : Outcome → AH → Prop) (h0 : AH) (below : List Frame) (s : State) : State → Prop := fun t => ∃ oc, t.status = .running ∧ Ended t below oc ∧ AE g Q h0 s oc t
/-- the method's start -/
def Sx (g : Gl) (h : AH) (U : State) : Prop := Kw g U ∧ Ev g U U.heap ∧ AdOK g ∧ Co g h U.heap ∧ gN h ≤ CAP ∧ gZ h ≤ CAS
def Cx (g : Gl) (M : MI) (d : Nat) (p : Program) (R : Room) (s : State) (m : MethodId) (meth : Method) (c : Code) (h0 : AH) : Prop :=
  p.tables.exec = Jvm.exec ∧ c.code = M.2.1 ∧ c.maxLocals = M.2.2.1 ∧ c.exceptionTable.toList.map (fun h => (h.startPc, h.endPc, h.handlerPc, h.catchType)) = M.2.2.2.2 ∧
  meth.sig.returnType = M.2.2.2.1 ∧ meth.locks = false ∧ meth.name = M.1.name ∧ s.vm.findClass M.1.cls = some m.cls ∧ Sx g h0 s ∧ d ≤ R.frames ∧ 64 * d ≤ R.locals ∧ CAP ≤ R.cells + gN h0 ∧ CAS ≤ R.slots + gZ h0
def AW (g : Gl) (M : MI) (d : Nat) (Q : Outcome → AH → Prop) (pc : Nat) (ls : List (Option Value)) (st : List Value) (h : AH) : Prop :=
  ∀ (p : Program) (e : Env) (R : Room) (s : State) (m : MethodId) (args : Array Value) (below : List Frame) (meth : Method) (c : Code) (h0 : AH) (H : Heap) (locs : List Loc) (lC : Array Slot),
    Cx g M d p R s m meth c h0 → Rt g h0 h s.heap H locs → LsOK (ad g) M.2.2.1 ls lC →
    W p g.1 e R s m args below meth c H locs (gN h - gN h0) (gZ h - gZ h0) (AQ g Q h0 below s) (F0 m pc lC (st.map (trv (ad g))))
/-- an exception a is under way at pc -/
def AT (g : Gl) (M : MI) (d : Nat) (Q : Outcome → AH → Prop) (pc : Nat) (ls : List (Option Value)) (a : Nat) (h : AH) : Prop :=
  ∀ (p : Program) (e : Env) (R : Room) (s : State) (m : MethodId) (args : Array Value) (below : List Frame) (meth : Method) (c : Code) (h0 : AH) (H : Heap) (locs : List Loc) (lC : Array Slot) (stC : List Value),
    Cx g M d p R s m meth c h0 → Rt g h0 h s.heap H locs → LsOK (ad g) M.2.2.1 ls lC →
    ∀ T : State, T.heap = H → Stand p g.1 e R s m args below meth c T locs (gN h - gN h0) (gZ h - gZ h0) → ∃ t, Steps p.tables e below ((T.setTop (F0 m pc lC stC)).pushFrame (.throwing (ad g a))) t ∧ AQ g Q h0 below s t
def rmA (d : Nat) (h : AH) : Room := { frames := d, cells := CAP - gN h, slots := CAS - gZ h, locals := 64 * d }
def AM (g : Gl) (d : Nat) (M : MI) (av : List Value) (h : AH) (Q : Outcome → AH → Prop) : Prop :=
  MetFree g.1 M.1 (headSpec [cwM M] (rmA d h)) (fun a U => a = (av.map (trv (ad g))).toArray ∧ Sx g h U) (fun _ _ _ _ _ => True) (fun _ st o t => AE g Q h st o t)
theorem AE.mono {g : Gl} {Q Q' : Outcome → AH → Prop} {h0 : AH} {s : State} {oc : Outcome} {t : State} (hq : ∀ o h, Q o h → Q' o h) (h : AE g Q h0 s oc t) : AE g Q' h0 s oc t := by
  obtain ⟨o, h', L, e1, e2, e3⟩ := h
  exact ⟨o, h', L, e1, hq _ _ e2, e3⟩
theorem AQ.mono {g : Gl} {Q Q' : Outcome → AH → Prop} {h0 : AH} {below : List Frame} {s t : State} (hq : ∀ o h, Q o h → Q' o h) (h : AQ g Q h0 below s t) : AQ g Q' h0 below s t := by
  obtain ⟨oc, h1, h2, h3⟩ := h
  exact ⟨oc, h1, h2, h3.mono hq⟩
theorem AW.mono {g : Gl} {M : MI} {d : Nat} {Q Q' : Outcome → AH → Prop} {pc : Nat} {ls : List (Option Value)} {st : List Value} {h : AH} (hq : ∀ o h, Q o h → Q' o h) (k : AW g M d Q pc ls st h) : AW g M d Q' pc ls st h := by
  intro p e R s m args below meth c h0 H locs lC hC hR hL T hT X
  obtain ⟨t, a, b⟩ := k p e R s m args below meth c h0 H locs lC hC hR hL T hT X
  exact ⟨t, a, b.mono hq⟩
theorem AM.mono {g : Gl} {d : Nat} {M : MI} {av : List Value} {h : AH} {Q Q' : Outcome → AH → Prop} (k : AM g d M av h Q) (hq : ∀ o h, Q o h → Q' o h) : AM g d M av h Q' := by
  intro p e h1 h2 h3 s m args below h4 h5 h6 h7
  obtain ⟨n, o, q1, q2, q3, q4⟩ := k p e h1 h2 h3 s m args below h4 h5 h6 h7
  exact ⟨n, o, q1, q2, q3, q4.mono hq⟩
theorem AW.sub {g : Gl} {M : MI} {d : Nat} {Q : Outcome → AH → Prop} {pc : Nat} {ls ls' : List (Option Value)} {st : List Value} {h : AH} (hs : lsub ls' ls) (k : AW g M d Q pc ls' st h) : AW g M d Q pc ls st h :=
  fun p e R s m args below meth c h0 H locs lC hC hR hL => k p e R s m args below meth c h0 H locs lC hC hR (hL.sub hs)
theorem AW.eq {g : Gl} {M : MI} {d : Nat} {Q : Outcome → AH → Prop} {pc : Nat} {ls : List (Option Value)} {st st' : List Value} {h h' : AH} (e1 : st = st') (e2 : h = h') (k : AW g M d Q pc ls st' h') : AW g M d Q pc ls st h := by
  subst e1; subst e2; exact k
/-- a method's contract out of its walk -/
theorem AM.ofF {g : Gl} {d : Nat} {M : MI} {av : List Value} {h : AH} {Q : Outcome → AH → Prop} (hy : plainFor M.1 = true) (hl : wds av ≤ M.2.2.1) (k : AW g M d Q 0 (lsA av) [] h) : AM g d M av h Q := by
  refine MetFree.of_bodySF (code := M.2.1) (maxLocals := M.2.2.1) (ret := M.2.2.2.1) hy ?_ ?_
  · intro args s m hp hn
    obtain ⟨m', meth, c, h1, h2, h3, h4, h5, -, h6, h7, -⟩ := cwM_spec (atoms_spec (ws := [cwM M]) hp _ List.mem_cons_self)
    cases hn.symm.trans h1
    exact ⟨meth, c, h2, h3, h4, h5, h6, h7⟩
  · intro p e s m args below meth c s₁ B hml hP _
    obtain ⟨rfl, hS⟩ := hP
    have hh0 : s₁.heap = s.heap := by rw [B.state]; rfl
    obtain ⟨m', meth', c', h1, h2, h3, h4, h5, h6, h7, h8, -⟩ := cwM_spec (atoms_spec (ws := [cwM M]) B.pre _ List.mem_cons_self)
    cases B.named.symm.trans h1
    cases B.method.symm.trans h2
    have X := Stand.of_body B
    cases X.code.symm.trans h3
    obtain ⟨hK, hE, hA, hCo, hn1, hn2⟩ := id hS
    have hlv := lv_entry (av.map (trv (ad g))) (n := M.2.2.1) (by rw [lg_sl_len]; exact hl)
    have hcx : Cx g M d p (headSpec [cwM M] (rmA d h)).room s m meth c h := by
      refine ⟨B.exec, h4, h5, h6, h7, h8, (name_of_methodNamed B.named B.method).1, findClass_of_methodNamed B.named, hS, Nat.le_refl _, Nat.le_refl _, ?_, ?_⟩
      · show CAP ≤ (CAP - gN h) + gN h
        omega
      · show CAS ≤ (CAS - gZ h) + gZ h
        omega
    have hk := k p e (headSpec [cwM M] (rmA d h)).room s m (av.map (trv (ad g))).toArray below meth c h s.heap [] _ hcx ⟨hCo, va_S.rf, Nat.le_refl _, Nat.le_refl _, hn1, hn2⟩ ⟨hlv.1, hlv.2.1, fun i v hg => by
      have h9 := lsA_args (ad g) av 0 i v hg
      rw [Nat.zero_add] at h9
      exact hlv.2.2 _ h9⟩
    rw [Nat.sub_self, Nat.sub_self] at hk
    obtain ⟨t, a1, o, b1, b2, b3⟩ := hk s₁ hh0 X
    rw [lg_entry_eq]
    exact ⟨t, o, a1, b1, b2, b3⟩
theorem AM.of {g : Gl} {d : Nat} {M : MI} {av : List Value} {h : AH} {Q : Outcome → AH → Prop} (hy : plainName M.1.cls = true) (hl : wds av ≤ M.2.2.1) (k : AW g M d Q 0 (lsA av) [] h) : AM g d M av h Q := AM.ofF (plainFor_of_name hy) hl k
/-- the depth may be greater -/
theorem AM.deep {g : Gl} {d d' : Nat} {M : MI} {av : List Value} {h : AH} {Q : Outcome → AH → Prop} (hd : d ≤ d') (k : AM g d M av h Q) : AM g d' M av h Q := by
  intro p e h1 h2 h3 s m args below h4 h5 h6 h7
  refine k p e h1 h2 h3 s m args below h4 ?_ h6 h7
  obtain ⟨q1, q2, q3, q4, q5, q6, q7, q8⟩ := (Spec.appliesLoose_iff h4).mp h5
  refine (Spec.appliesLoose_iff h4).mpr ⟨q1, q2, q3, q4, q5, q6, ?_, q8⟩
  have q7 : s.hasRoom e.platform (rmA d' h) = true := q7
  show s.hasRoom e.platform (rmA d h) = true
  simp only [State.hasRoom, Bool.and_eq_true, decide_eq_true_eq] at q7 ⊢
  have f1 : (rmA d h).frames = d := rfl
  have f2 : (rmA d' h).frames = d' := rfl
  have f3 : (rmA d h).locals = 64 * d := rfl
  have f4 : (rmA d' h).locals = 64 * d' := rfl
  obtain ⟨⟨⟨⟨a1, a2, a3, a4, a5, a6⟩, b1⟩, c1⟩, d1⟩ := q7
  exact ⟨⟨⟨⟨by omega, by omega, by omega, by omega, by omega, a6⟩, b1⟩, c1⟩, d1⟩
