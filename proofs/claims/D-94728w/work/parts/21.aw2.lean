set_option maxRecDepth 100000
/-! AW, part 2: what holds of the tables all through a run; the judgements -/
def isN (w : Cond) : Bool := match w with
  | .fieldLinkNest _ _ _ _ _ _ => true
  | .methodLinkNest _ _ _ _ => true
  | .declares _ => true
  | .castable _ _ => true
  | _ => false
def AO (t : FieldType) (U : State) : Prop := (Cond.arrayOver t).before #[] U = true
theorem AO.moved (t : FieldType) (ht : t = .array .short ∨ ∃ C, t = .object C) {u U : State} (hvm : u.vm.Alike U.vm) (h : AO t u) : AO t U := by
  rcases ht with rfl | ⟨C, rfl⟩
  · obtain ⟨comp, c, k, h1, h2, h3, h4, h5⟩ := arrayOverA_spec (t := .short) h
    obtain ⟨k', hk', he⟩ := hvm.2.2 _ _ h3
    have hi : (U.vm.classes.findIdx? fun (x : Class) => match x.kind with | .array component _ => component == comp | _ => false) = some c := by
      refine (va_idx_bare U.vm comp).symm.trans ?_
      first | rw [hvm.bare_eq] | rw [← hvm.bare_eq]
      exact (va_idx_bare u.vm comp).trans h2
    have hkind : k'.kind = .array comp (.array .short) := by rw [he]; exact h4
    have f1 : U.vm.findClass (FieldType.array .short).toString = some comp := by rw [hvm.findClass]; exact h1
    have f2 : U.vm.findClass ("[" ++ (FieldType.array .short).toString) = some c := by rw [hvm.findClass]; exact h5
    unfold AO Cond.before Cond.holds
    simp only [Cond.value]
    rw [f1, Option.bind_some]
    refine (congrArg (fun o : Option Nat => (o.bind (fun c => (U.vm.classes[c]?).map fun (k : Class) => match k.kind with | .array _ ty => decide (ty = FieldType.array .short) && decide (U.vm.findClass ("[" ++ (FieldType.array .short).toString) = some c) | _ => false) == some true)) hi).trans ?_
    simp [hk', hkind, f2]
  · exact va_AO.moved hvm h
abbrev awAO : List FieldType := [.object "BeeYard$Tray", .object "BeeYard$Hive", .object "BeeYard$House", .object "BeeYard$Step", .array .short]
abbrev awNc : List (String × String) := [("BeeYard$Refused", "java/lang/NegativeArraySizeException"), ("BeeYard$Refused", "java/lang/ArrayIndexOutOfBoundsException"), ("BeeYard$Refused", "java/lang/IndexOutOfBoundsException"), ("[B", "[S"), ("[B", "[I"), ("[S", "[B"), ("[S", "[I"), ("[I", "[B"), ("[I", "[S"), ("[J", "[B"), ("[J", "[S"), ("[J", "[I")]
abbrev awStr : List (String × Nat × String) := [("BeeYard$Reader", 101, "hive"), ("BeeYard$Reader", 103, "boxes"), ("BeeYard$Reader", 105, "frames"), ("BeeYard$Reader", 107, "drone"), ("BeeYard$Reader", 109, "of"), ("BeeYard$Reader", 111, "queen"), ("BeeYard$Reader", 113, "lays"), ("BeeYard$Reader", 115, "by"), ("BeeYard$Reader", 117, "in"), ("BeeYard$Reader", 79, "days"), ("BeeYard$Reader", 81, "bring"), ("BeeYard$Reader", 83, "harvest"), ("BeeYard$Reader", 85, "move"), ("BeeYard$Reader", 87, "bloom"), ("BeeYard$Reader", 89, "seat"), ("BeeYard$Reader", 91, "stop"), ("BeeYard$Reader", 93, "crowded"), ("BeeYard$Reader", 95, "bees"), ("BeeYard$Reader", 97, "honey"), ("BeeYard$Reader", 99, "brood"), ("BeeYard$Reader", 125, "when"), ("BeeYard$Reader", 127, "loop"), ("BeeYard$Reader", 129, "end"), ("BeeYardModel", 165, " hive drone queen boxes frames bees honey of lays by in days bring harvest move bloom seat when loop end stop crowded brood ")]
abbrev awSL : List Nat := [4, 5, 6, 5, 2, 5, 4, 2, 2, 4, 5, 7, 4, 5, 4, 4, 7, 4, 5, 5, 4, 4, 3, 124]
abbrev awSB : List (List Int32) := [[104, 105, 118, 101], [98, 111, 120, 101, 115], [102, 114, 97, 109, 101, 115], [100, 114, 111, 110, 101], [111, 102], [113, 117, 101, 101, 110], [108, 97, 121, 115], [98, 121], [105, 110], [100, 97, 121, 115], [98, 114, 105, 110, 103], [104, 97, 114, 118, 101, 115, 116], [109, 111, 118, 101], [98, 108, 111, 111, 109], [115, 101, 97, 116], [115, 116, 111, 112], [99, 114, 111, 119, 100, 101, 100], [98, 101, 101, 115], [104, 111, 110, 101, 121], [98, 114, 111, 111, 100], [119, 104, 101, 110], [108, 111, 111, 112], [101, 110, 100], [32, 104, 105, 118, 101, 32, 100, 114, 111, 110, 101, 32, 113, 117, 101, 101, 110, 32, 98, 111, 120, 101, 115, 32, 102, 114, 97, 109, 101, 115, 32, 98, 101, 101, 115, 32, 104, 111, 110, 101, 121, 32, 111, 102, 32, 108, 97, 121, 115, 32, 98, 121, 32, 105, 110, 32, 100, 97, 121, 115, 32, 98, 114, 105, 110, 103, 32, 104, 97, 114, 118, 101, 115, 116, 32, 109, 111, 118, 101, 32, 98, 108, 111, 111, 109, 32, 115, 101, 97, 116, 32, 119, 104, 101, 110, 32, 108, 111, 111, 112, 32, 101, 110, 100, 32, 115, 116, 111, 112, 32, 99, 114, 111, 119, 100, 101, 100, 32, 98, 114, 111, 111, 100, 32]]
def AENV (l : Launch) (D : va_G) (dA : Nat → ClassId) (sA : Nat → Nat) (A : Nat → Prop) (s : State) (H : Heap) : Prop :=
  l.stackTraces = false ∧ va_K D awCl (awTys dA) s ∧ (∀ w ∈ lw_tbl, isN w = true → va_Nw w s) ∧ (∀ t ∈ awAO, AO t s) ∧ (∀ q ∈ awNc, va_Nc q.1 q.2 s) ∧ vk_S 24 awSL awSB sA (fun k => sA (24 + k)) A s H ∧ (∀ (i : Nat) (q : String × Nat × String), awStr[i]? = some q → vk_R q.1 q.2.1 q.2.2 (sA i) s) ∧
  vx_Zq Bundle.tN "UNASSIGNED_STACK" Bundle.steD A s H ∧ vx_Zq Bundle.tN "SUPPRESSED_SENTINEL" Bundle.listD A s H ∧ va_Z "java/lang/String" "COMPACT_STRINGS" "Z" (.int 1) A s H ∧ vx_Zq "jdk/internal/util/Preconditions" "SIOOBE_FORMATTER" "Ljava/util/function/BiFunction;" A s H
theorem AENV.tails {l : Launch} {D : va_G} {dA : Nat → ClassId} {sA : Nat → Nat} {A B : Nat → Prop} {s U : State} {H H1 : Heap} (hvm : s.vm.Alike U.vm) (hn : ∀ w ∈ lw_tbl, isN w = true → va_Nw w s → va_Nw w U) (hr : ∀ own k tx a, vk_R own k tx a s → vk_R own k tx a U)
    (hq : ∀ a : Nat, a < H.size → ¬ A a → H1[a]? = H[a]?) (hAB : ∀ q, B q → A q) (h : AENV l D dA sA A s H) : AENV l D dA sA B U H1 := by
  obtain ⟨h1, h2, h3, h4, h5, h6, h7, h8, h9, h10, h11⟩ := h
  refine ⟨h1, va_K.moved hvm h2, fun w hw hi => hn w hw hi (h3 w hw hi), fun t ht => AO.moved t ?_ hvm (h4 t ht), fun q hq => va_Nc.moved hvm (h5 q hq), ((vk_S.moved hvm h6).kept hq).narrow hAB, fun i q hi => hr _ _ _ _ (h7 i q hi),
    ((vx_Zq.moved hvm h8).kept hq).narrow hAB, ((vx_Zq.moved hvm h9).kept hq).narrow hAB, ((va_Z.moved hvm h10).kept hq).narrow hAB, ((vx_Zq.moved hvm h11).kept hq).narrow hAB⟩
  simp only [awAO, List.mem_cons, List.mem_nil_iff, or_false] at ht
  rcases ht with rfl | rfl | rfl | rfl | rfl
  · exact Or.inr ⟨_, rfl⟩
  · exact Or.inr ⟨_, rfl⟩
  · exact Or.inr ⟨_, rfl⟩
  · exact Or.inr ⟨_, rfl⟩
  · exact Or.inl rfl
theorem AENV.warm {l : Launch} {D : va_G} {dA : Nat → ClassId} {sA : Nat → Nat} {A B : Nat → Prop} {s U : State} {H H1 : Heap} (hW : s.WarmedH U.vm) (hq : ∀ a : Nat, a < H.size → ¬ A a → H1[a]? = H[a]?) (hAB : ∀ q, B q → A q) (h : AENV l D dA sA A s H) : AENV l D dA sA B U H1 :=
  AENV.tails hW.alike (fun w _ hi hw => by
    cases w with
    | fieldLinkNest a b c d e f => exact va_Nw.warmF hW hw
    | methodLinkNest a b c d => exact va_Nw.warmM hW hw
    | declares a => exact va_Nw.warmD hW hw
    | castable a b => exact va_Nw.warmC hW hw
    | _ => cases hi) (fun _ _ _ _ h => vk_R.warm hW h) hq hAB h
theorem AENV.same {l : Launch} {D : va_G} {dA : Nat → ClassId} {sA : Nat → Nat} {A : Nat → Prop} {s U : State} {H : Heap} (hv : s.vm = U.vm) (h : AENV l D dA sA A s H) : AENV l D dA sA A U H :=
  AENV.tails (by rw [hv]; exact Vm.Alike.refl U.vm) (fun w _ hi hw => by
    cases w with
    | fieldLinkNest a b c d e f => exact va_Nw.same rfl hv hw
    | methodLinkNest a b c d => exact va_Nw.same rfl hv hw
    | declares a => exact va_Nw.same rfl hv hw
    | castable a b => exact va_Nw.same rfl hv hw
    | _ => cases hi) (fun _ _ _ _ h => vk_R.same hv.symm h) (fun _ _ _ => rfl) (fun _ h => h) h
/-- thrown classes, by number -/
def exN (c : Nat) : String := match c with
  | 0 => "BeeYard$Bad"
  | 1 => "BeeYard$Refused"
  | 2 => "java/lang/NegativeArraySizeException"
  | _ => "java/lang/ArrayIndexOutOfBoundsException"
/-- how a method ends: a condition on the last state, out of all that was at its start -/
abbrev aZ : Type := Launch → List Frame → Array Value → State → va_G → (Nat → ClassId) → (Nat → Nat) → (Nat → Prop) → (Int → Nat) → Int → Nat → Nat → State → Prop
def ACX (M : aMD) (d : Nat) (p : Program) (l : Launch) (e : Env) (R : Room) (s : State) (m : MethodId) (args : Array Value) (meth : Method) (c : Code) (D : va_G) (dA : Nat → ClassId) (sA : Nat → Nat) (A : Nat → Prop) (mc ms : Nat) : Prop :=
  p.tables.exec = Jvm.exec ∧ c.code = M.2.1 ∧ c.maxLocals = M.2.2.1 ∧ s.vm.findClass M.1.cls = some m.cls ∧ (∀ w ∈ lw_all, w.before args s = true) ∧ meth.sig.returnType = M.2.2.2.1 ∧ meth.locks = false ∧ meth.name = M.1.name ∧ c.exceptionTable.toList = tableOf M.2.2.2.2 ∧
  (d ≤ R.frames ∧ 64 * d ≤ R.locals ∧ mc ≤ R.cells ∧ ms ≤ R.slots) ∧ AENV l D dA sA A s s.heap ∧ ∀ q, s.heap.size ≤ q → A q
def AW (Z : aZ) (M : aMD) (d kc ks pc : Nat) (L : List (Option aV)) (st : List aV) (G : aG) : Prop :=
  ∀ (p : Program) (l : Launch) (e : Env) (R : Room) (s : State) (m : MethodId) (args : Array Value) (below : List Frame) (meth : Method) (c : Code) (D : va_G) (dA : Nat → ClassId) (sA : Nat → Nat) (A : Nat → Prop) (ad0 : Int → Nat) (sz0 : Int) (mc ms : Nat),
    ACX M d p l e R s m args meth c D dA sA A mc ms → ∀ (ad : Int → Nat) (H : Heap) (locs : List Loc) (cells slots : Nat) (ls : Array Slot) (rst : List Value),
      AEX ad0 sz0 ad G.1 → HR D dA sA A ad G H → lrel sA ad G.1 L ls M.2.2.1 → srel sA ad G.1 st rst → va_S A s.heap H locs → cells + kc ≤ mc → slots + ks ≤ ms →
      W p l e R s m args below meth c H locs cells slots (Z l below args s D dA sA A ad0 sz0 mc ms) (F0 m pc ls rst)
/-- x of class number E is thrown over the frame at pc -/
def AX (Z : aZ) (M : aMD) (d kc ks pc : Nat) (L : List (Option aV)) (E : Nat) (x : Int) (G : aG) : Prop :=
  ∀ (p : Program) (l : Launch) (e : Env) (R : Room) (s : State) (m : MethodId) (args : Array Value) (below : List Frame) (meth : Method) (c : Code) (D : va_G) (dA : Nat → ClassId) (sA : Nat → Nat) (A : Nat → Prop) (ad0 : Int → Nat) (sz0 : Int) (mc ms : Nat),
    ACX M d p l e R s m args meth c D dA sA A mc ms → ∀ (ad : Int → Nat) (H : Heap) (locs : List Loc) (cells slots : Nat) (ls : Array Slot) (rst : List Value) (q : Addr) (ce : Cell),
      AEX ad0 sz0 ad G.1 → HR D dA sA A ad G H → lrel sA ad G.1 L ls M.2.2.1 → va_S A s.heap H locs → cells + kc ≤ mc → slots + ks ≤ ms →
      rfk sA ad G.1 x (.ref q) → H[q]? = some ce → ce.vm = .none → s.vm.findClass (exN E) = some ce.cls →
      vx_W p l e R s m args below meth c H locs cells slots (Z l below args s D dA sA A ad0 sz0 mc ms) (F0 m pc ls rst) q
def orel (sA : Nat → Nat) (ad : Int → Nat) (sz : Int) : Option aV → Option Value → Prop
  | none, r => r = none
  | some a, r => ∃ v, r = some v ∧ vok sA ad sz a v
/-- which cells a call may write -/
def aFR (sz : Int) (ad : Int → Nat) (hs : Nat) : Nat → Prop := fun q => (∃ a, 0 ≤ a ∧ a < sz ∧ ad a = q) ∨ hs ≤ q
def aQC (D : va_G) (dA : Nat → ClassId) (sA : Nat → Nat) (A : Nat → Prop) (ad : Int → Nat) (sz : Int) (Q : aPost) : Array Value → State → Outcome → State → Prop := fun _ st oc t =>
  (∃ (rv : Option Value) (r : Option aV) (G' : aG) (ad' : Int → Nat), oc = .returned rv ∧ orel sA ad' G'.1 r rv ∧ Q (.inl r) G' ∧ AEX ad sz ad' G'.1 ∧ HR D dA sA A ad' G' t.heap) ∧ va_F A st t
def aXC (D : va_G) (dA : Nat → ClassId) (sA : Nat → Nat) (A : Nat → Prop) (ad : Int → Nat) (sz : Int) (Q : aPost) : String → Addr → State → State → Prop := fun E q st t =>
  (∃ (c : Nat) (x : Int) (G' : aG) (ad' : Int → Nat), E = exN c ∧ rfk sA ad' G'.1 x (.ref q) ∧ Q (.inr (c, x)) G' ∧ AEX ad sz ad' G'.1 ∧ HR D dA sA A ad' G' t.heap) ∧ va_F A st t
/-- the end of a method called by contract -/
def mq (Q : aPost) : aZ := fun l below args s D dA sA A ad0 sz0 mc ms => vx_MQ below (aQC D dA sA A ad0 sz0 Q) (aXC D dA sA A ad0 sz0 Q) args s mc ms A
abbrev awRm (d kc ks : Nat) : Room := { frames := d, cells := kc, slots := ks, locals := 64 * d }
def awWs (N : aMD) : List Cond := if N.2.2.2.2 = [] then ws_ N.1 N.2.1 N.2.2.1 N.2.2.2.1 else wsW_ N.1 N.2.1 N.2.2.1 N.2.2.2.1 N.2.2.2.2
/-- a call's contract -/
def AMet (N : aMD) (d kc ks : Nat) (args : List aV) (G : aG) (Q : aPost) : Prop :=
  ∀ (l : Launch) (D : va_G) (dA : Nat → ClassId) (sA : Nat → Nat) (ad : Int → Nat) (hs : Nat) (rargs : List Value), srel sA ad G.1 args rargs →
    vx_Met l N.1 (awWs N) (awRm d kc ks) (va_Pc rargs (fun U => U.heap.size = hs ∧ AENV l D dA sA (aFR G.1 ad hs) U U.heap ∧ HR D dA sA (aFR G.1 ad hs) ad G U.heap)) (aQC D dA sA (aFR G.1 ad hs) ad G.1 Q) (aXC D dA sA (aFR G.1 ad hs) ad G.1 Q) kc ks (aFR G.1 ad hs)
theorem AW.widen {Z : aZ} {M : aMD} {d kc ks kc' ks' pc : Nat} {L : List (Option aV)} {st : List aV} {G : aG} (h1 : kc' ≤ kc) (h2 : ks' ≤ ks) (h : AW Z M d kc' ks' pc L st G) : AW Z M d kc ks pc L st G := by
  intro p l e R s m args below meth c D dA sA A ad0 sz0 mc ms C ad H locs cells slots ls rst hE hH hL hst hS hk1 hk2
  exact h p l e R s m args below meth c D dA sA A ad0 sz0 mc ms C ad H locs cells slots ls rst hE hH hL hst hS (by omega) (by omega)
