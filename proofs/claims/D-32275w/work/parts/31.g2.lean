/-! what holds of the machine all through the run, whatever the heap: classes, links that no list carries, statics -/
set_option maxRecDepth 100000
def gNw (w : Cond) : Bool := match w with
  | .fieldLinkNest _ _ _ _ _ _ => true
  | .methodLinkNest _ _ _ _ => true
  | .declares _ => true
  | .castable _ _ => true
  | _ => false
def gFr (E : gE) : Addr → Prop := fun q => E.2.2.1.size ≤ q
/-- statics of whole numbers -/
def gZs : List (String × String × String × Int) := [("java/lang/String", "COMPACT_STRINGS", "Z", 1), ("java/lang/StringUTF16", "$assertionsDisabled", "Z", 1), ("java/lang/StringUTF16", "HI_BYTE_SHIFT", "I", 0), ("java/lang/StringUTF16", "LO_BYTE_SHIFT", "I", 8)]
/-- calls through interfaces: the receiver's class, the method named, the method run -/
def gFw : List (String × MethodName × MethodName) := [
  ("java/util/ArrayList", ⟨"java/util/List", "size", "()I"⟩, ⟨"java/util/ArrayList", "size", "()I"⟩),
  ("java/util/ArrayList", ⟨"java/util/List", "get", "(I)Ljava/lang/Object;"⟩, ⟨"java/util/ArrayList", "get", "(I)Ljava/lang/Object;"⟩),
  ("java/util/ArrayList", ⟨"java/util/List", "add", "(Ljava/lang/Object;)Z"⟩, ⟨"java/util/ArrayList", "add", "(Ljava/lang/Object;)Z"⟩),
  ("java/util/ArrayList", ⟨"java/util/List", "isEmpty", "()Z"⟩, ⟨"java/util/ArrayList", "isEmpty", "()Z"⟩),
  ("Appealrent$Form", ⟨"Appealrent$Clauses", "takes", "(Ljava/lang/String;LAppealrent$Words;)Z"⟩, ⟨"Appealrent$Form", "takes", "(Ljava/lang/String;LAppealrent$Words;)Z"⟩),
  ("Appealrent$Rule", ⟨"Appealrent$Clauses", "takes", "(Ljava/lang/String;LAppealrent$Words;)Z"⟩, ⟨"Appealrent$Rule", "takes", "(Ljava/lang/String;LAppealrent$Words;)Z"⟩),
  ("Appealrent$Form", ⟨"Appealrent$Clauses", "isEnough", "()Z"⟩, ⟨"Appealrent$Form", "isEnough", "()Z"⟩),
  ("Appealrent$Rule", ⟨"Appealrent$Clauses", "isEnough", "()Z"⟩, ⟨"Appealrent$Rule", "isEnough", "()Z"⟩)]
theorem gFw_ok : ∀ f ∈ gFw, f.2.1.cls ≠ "java/lang/invoke/MethodHandle" ∧ f.2.1.cls ≠ "java/lang/invoke/VarHandle" := by decide +kernel
/-- the strings that the run's code loads: whose entry, which text, its number -/
def gStrs : List (String × Nat × String × Nat) := [("Appealrent", 60, "", 0), ("Appealrent", 336, ".", 1), ("Appealrent", 347, " ended", 2), ("Appealrent$Form", 42, "rent", 3), ("Appealrent$Form", 48, "income", 4), ("Appealrent$Form", 50, "heads", 5), ("Appealrent$Form", 52, "to", 6), ("Appealrent$Form", 54, "from", 7), ("Appealrent$Form", 83, "tenant", 8), ("Appealrent$Form", 85, "landlord", 9), ("Appealrent$Rule", 71, "cap", 10), ("Appealrent$Rule", 77, "share", 11), ("Appealrent$Rule", 79, "free", 12), ("Appealrent$Rule", 81, "cut", 13), ("Appealrent$Rule", 83, "least", 14), ("AppealrentModel", 143, "tenant", 8), ("AppealrentModel", 149, "landlord", 9), ("AppealrentModel", 151, "rent", 3), ("AppealrentModel", 153, "cap", 10), ("AppealrentModel", 155, "income", 4), ("AppealrentModel", 157, "share", 11), ("AppealrentModel", 159, "heads", 5), ("AppealrentModel", 161, "free", 12), ("AppealrentModel", 163, "to", 6), ("AppealrentModel", 165, "cut", 13), ("AppealrentModel", 167, "from", 7), ("AppealrentModel", 169, "least", 14), ("AppealrentModel", 310, " ended", 2)]
/-- their signs -/
def gTxt : Nat → List Nat := fun k => match k with
  | 0 => []
  | 1 => [46]
  | 2 => [32, 101, 110, 100, 101, 100]
  | 3 => [114, 101, 110, 116]
  | 4 => [105, 110, 99, 111, 109, 101]
  | 5 => [104, 101, 97, 100, 115]
  | 6 => [116, 111]
  | 7 => [102, 114, 111, 109]
  | 8 => [116, 101, 110, 97, 110, 116]
  | 9 => [108, 97, 110, 100, 108, 111, 114, 100]
  | 10 => [99, 97, 112]
  | 11 => [115, 104, 97, 114, 101]
  | 12 => [102, 114, 101, 101]
  | 13 => [99, 117, 116]
  | 14 => [108, 101, 97, 115, 116]
  | _ => []
def gHash (l : List Nat) : Int := l.foldl (fun (h : Int) (c : Nat) => (31 * h + c).bmod 4294967296) 0
/-- the constant strings are named by the environment: the object and its bytes -/
def gStat (E : gE) : Prop := ∀ k : Nat, k < 15 → E.2.2.2.1 (E.2.2.2.2 (2 * k + 1)) = some (gO 11 [.ref (E.2.2.2.2 (2 * k + 2)), vi 0, vi (gHash (gTxt k)), vi (if k = 0 then 1 else 0)]) ∧ E.2.2.2.1 (E.2.2.2.2 (2 * k + 2)) = some (gI 1 (gTxt k).length (fun j => ((gTxt k).getD j 0 : Nat)))
/-- pairs of classes, the first not of the second's kind -/
def gNcs : List (String × String) := [("java/lang/IllegalStateException", "java/lang/IllegalArgumentException"), ("java/lang/IllegalStateException", "java/lang/IndexOutOfBoundsException"), ("java/lang/IllegalArgumentException", "java/lang/IndexOutOfBoundsException"), ("Appealrent$FaultException", "Appealrent$EndException")]
/-- statics of references: the digits' tables are named by the environment -/
def gKd (E : gE) (U : State) : Prop := va_Zq "jdk/internal/util/Preconditions" "SIOOBE_FORMATTER" "Ljava/util/function/BiFunction;" (gFr E) U E.2.2.1 ∧ (va_Z "java/lang/Integer" "DigitOnes" "[B" (.ref (E.2.2.2.2 41)) (gFr E) U E.2.2.1 ∧ va_Z "java/lang/Integer" "DigitTens" "[B" (.ref (E.2.2.2.2 42)) (gFr E) U E.2.2.1) ∧ E.2.2.2.1 (E.2.2.2.2 41) = some (gI 1 100 (fun j => ((48 + j % 10 : Nat) : Int))) ∧ E.2.2.2.1 (E.2.2.2.2 42) = some (gI 1 100 (fun j => ((48 + j / 10 : Nat) : Int)))
theorem gKd.moved {E : gE} {u U : State} (hvm : u.vm.Alike U.vm) (h : gKd E u) : gKd E U := ⟨va_Zq.moved hvm h.1, ⟨va_Z.moved hvm h.2.1.1, va_Z.moved hvm h.2.1.2⟩, h.2.2⟩
/-- more that the calls through interfaces, lambdas, constants ask: filled where they stand -/
def gKm (E : gE) (U : State) : Prop :=
  (∀ z ∈ gZs, va_Z z.1 z.2.1 z.2.2.1 (vi z.2.2.2) (gFr E) U E.2.2.1) ∧
  (vx_Zq Bundle.tN "UNASSIGNED_STACK" Bundle.steD (gFr E) U E.2.2.1 ∧ vx_Zq Bundle.tN "SUPPRESSED_SENTINEL" Bundle.listD (gFr E) U E.2.2.1) ∧
  (va_AO "java/lang/Object" U ∧ va_AO "Appealrent$Figure" U ∧ va_AO "java/lang/String" U) ∧
  (∀ f ∈ gFw, va_Fw f.1 f.2.1 f.2.2 U) ∧ va_Mi "[Ljava/lang/Object;" (E.2.2.2.2 0) U ∧ (∀ c ∈ gNcs, va_Nc c.1 c.2 U) ∧ gStat E ∧ gKd E U
def gK (E : gE) (U : State) : Prop := va_K E.1 gCl (gTys E) U ∧ ((∀ w ∈ lw_tbl, gNw w = true → va_Nw w U) ∧ ∀ r ∈ gStrs, vk_R r.1 r.2.1 r.2.2.1 (E.2.2.2.2 (2 * r.2.2.2 + 1)) U) ∧ gKm E U
theorem gKm.moved {E : gE} {u U : State} (hvm : u.vm.Alike U.vm) (h : gKm E u) : gKm E U :=
  ⟨fun z hz => (h.1 z hz).moved hvm, ⟨h.2.1.1.moved hvm, h.2.1.2.moved hvm⟩, ⟨h.2.2.1.1.moved hvm, h.2.2.1.2.1.moved hvm, h.2.2.1.2.2.moved hvm⟩, fun f hf => (h.2.2.2.1 f hf).moved (gFw_ok f hf) hvm, h.2.2.2.2.1.moved hvm, fun c hc => (h.2.2.2.2.2.1 c hc).moved hvm, h.2.2.2.2.2.2.1, h.2.2.2.2.2.2.2.moved hvm⟩
theorem gK.warm {E : gE} {s U : State} (hW : s.WarmedH U.vm) (h : gK E s) : gK E U := by
  refine ⟨va_K.moved hW.alike h.1, ⟨fun w hw hg => ?_, fun r hr => (h.2.1.2 r hr).warm hW⟩, h.2.2.moved hW.alike⟩
  have h1 := h.2.1.1 w hw hg
  cases w <;> first | exact va_Nw.warmF hW h1 | exact va_Nw.warmM hW h1 | exact va_Nw.warmD hW h1 | exact va_Nw.warmC hW h1 | exact absurd hg (by simp [gNw])
theorem gK.same {E : gE} {s U : State} (hvm : s.vm = U.vm) (h : gK E s) : gK E U := h.warm (by rw [← hvm]; exact State.WarmedH.refl s)
def gInv (E : gE) (M : gM) (H : Heap) : Prop :=
  (E.2.2.1.size ≤ H.size ∧ ∀ q : Nat, q < E.2.2.1.size → H[q]? = E.2.2.1[q]?) ∧
  (∀ (a : Nat) (x : Nat × gEnt), M a = some x → va_at E.1 gCl (a, gIn E x.2) H ∧ (x.1 ≠ 0 → E.2.2.1.size ≤ a)) ∧
  ∀ (a : Nat) (x : gEnt), E.2.2.2.1 a = some x → M a = some (0, x)
theorem gInv.lt {E : gE} {M : gM} {H : Heap} (h : gInv E M H) {a : Nat} {x : Nat × gEnt} (hM : M a = some x) : a < H.size := (h.2.1 a x hM).1.lt
theorem gInv.fresh {E : gE} {M : gM} {H : Heap} (h : gInv E M H) : M H.size = none := by
  cases hM : M H.size with
  | none => rfl
  | some x => exact absurd (h.lt hM) (Nat.lt_irrefl _)
theorem gInv.at {E : gE} {M : gM} {H : Heap} (h : gInv E M H) {a : Nat} {x : Nat × gEnt} (hM : M a = some x) : va_P E.1 gCl [(a, gIn E x.2)] H := by
  intro k q hk
  cases k with
  | zero => cases hk; exact (h.2.1 a x hM).1
  | succ k => cases hk
/-- a write: the cell a has new contents, all else is as it was -/
theorem gInv.put {E : gE} {M : gM} {H H1 : Heap} (h : gInv E M H) {a t : Nat} {x y : gEnt} (hM : M a = some (t, x)) (ht : t ≠ 0) (hz : H1.size = H.size) (ho : ∀ q : Nat, q ≠ a → H1[q]? = H[q]?) (he : va_at E.1 gCl (a, gIn E y) H1) : gInv E (gSet M a (t, y)) H1 := by
  obtain ⟨⟨h1, h2⟩, h3, h4⟩ := h
  have hlo := (h3 a _ hM).2 ht
  refine ⟨⟨by omega, fun q hq => (ho q (by omega)).trans (h2 q hq)⟩, fun b z hb => ?_, fun b z hb => ?_⟩
  · by_cases e : b = a
    · subst e
      rw [gSet_s] at hb
      cases hb
      exact ⟨he, fun _ => hlo⟩
    · rw [gSet_n _ _ e] at hb
      exact ⟨(h3 b z hb).1.kept (ho b e), (h3 b z hb).2⟩
  · have h5 := h4 b z hb
    rw [gSet_n _ _ (fun e => by rw [e, hM] at h5; cases h5; exact ht rfl)]
    exact h5
/-- a cell more, at the heap's end -/
theorem gInv.push {E : gE} {M : gM} {H H1 : Heap} (h : gInv E M H) {t : Nat} {y : gEnt} (hz : H1.size = H.size + 1) (ho : ∀ q : Nat, q < H.size → H1[q]? = H[q]?) (he : va_at E.1 gCl (H.size, gIn E y) H1) : gInv E (gSet M H.size (t, y)) H1 := by
  have hf := h.fresh
  obtain ⟨⟨h1, h2⟩, h3, h4⟩ := h
  refine ⟨⟨by omega, fun q hq => (ho q (by omega)).trans (h2 q hq)⟩, fun b z hb => ?_, fun b z hb => ?_⟩
  · by_cases e : b = H.size
    · subst e
      rw [gSet_s] at hb
      cases hb
      exact ⟨he, fun _ => h1⟩
    · rw [gSet_n _ _ e] at hb
      exact ⟨(h3 b z hb).1.kept (ho b (h3 b z hb).1.lt), (h3 b z hb).2⟩
  · have h5 := h4 b z hb
    rw [gSet_n _ _ (fun e => by rw [e, hf] at h5; cases h5)]
    exact h5
/-- the heap has grown by cells that M doesn't name -/
theorem gInv.grow {E : gE} {M : gM} {H H1 : Heap} (h : gInv E M H) (hz : H.size ≤ H1.size) (ho : ∀ q : Nat, q < H.size → H1[q]? = H[q]?) : gInv E M H1 := by
  obtain ⟨⟨h1, h2⟩, h3, h4⟩ := h
  exact ⟨⟨by omega, fun q hq => (ho q (by omega)).trans (h2 q hq)⟩, fun b z hb => ⟨(h3 b z hb).1.kept (ho b (h3 b z hb).1.lt), (h3 b z hb).2⟩, h4⟩
/-! a method's frame, and what it owes: Z = environment, the walk's own fixed parts, what must hold at its end -/
abbrev gX : Type := Program × Launch × Env × Room × State × MethodId × Array Value × List Frame × Method × Code
abbrev gP : Type := (Option Value → gM → Prop) × (String → Nat → gM → Prop)
abbrev gZ : Type := gE × gX × gP
abbrev gZp (Z : gZ) : Program := Z.2.1.1
abbrev gZl (Z : gZ) : Launch := Z.2.1.2.1
abbrev gZe (Z : gZ) : Env := Z.2.1.2.2.1
abbrev gZr (Z : gZ) : Room := Z.2.1.2.2.2.1
abbrev gZs' (Z : gZ) : State := Z.2.1.2.2.2.2.1
abbrev gZm (Z : gZ) : MethodId := Z.2.1.2.2.2.2.2.1
abbrev gZa (Z : gZ) : Array Value := Z.2.1.2.2.2.2.2.2.1
abbrev gZb (Z : gZ) : List Frame := Z.2.1.2.2.2.2.2.2.2.1
abbrev gZt (Z : gZ) : Method := Z.2.1.2.2.2.2.2.2.2.2.1
abbrev gZc (Z : gZ) : Code := Z.2.1.2.2.2.2.2.2.2.2.2
def gQ (E : gE) (Q : Option Value → gM → Prop) : Array Value → State → Outcome → State → Prop := fun _ st o t => ∃ (v : Option Value) (M : gM), o = .returned v ∧ Q v M ∧ gInv E M t.heap ∧ st.heap.size ≤ t.heap.size
def gQX (E : gE) (QX : String → Nat → gM → Prop) : String → Nat → State → State → Prop := fun En q st t => ∃ M : gM, QX En q M ∧ gInv E M t.heap ∧ st.heap.size ≤ t.heap.size
def gRm (d k n : Nat) : Room := { frames := d, cells := k, slots := n, locals := 100 * d + 3400 }
/-- a method's contract: from the ghost heap M, with these arguments, it returns what Q says, or throws what QX says; d: how deep it calls; mc cells of ms slots at most -/
def gMet (E : gE) (l : Launch) (y : MethodName) (ws : List Cond) (d mc ms : Nat) (as : List Value) (M : gM) (Q : Option Value → gM → Prop) (QX : String → Nat → gM → Prop) : Prop :=
  vx_Met l y ws (gRm d mc ms) (va_Pc as (fun U => gInv E M U.heap ∧ gK E U)) (gQ E Q) (gQX E QX) mc ms (gFr E)
def gEnd (Z : gZ) : State → Prop := vx_MQ (gZb Z) (gQ Z.1 Z.2.2.1) (gQX Z.1 Z.2.2.2) (gZa Z) (gZs' Z) (gZr Z).cells (gZr Z).slots (gFr Z.1)
def gW (Z : gZ) (H : Heap) (locs : List Loc) (cells slots : Nat) (g : JFrame) : Prop := W (gZp Z) (gZl Z) (gZe Z) (gZr Z) (gZs' Z) (gZm Z) (gZa Z) (gZb Z) (gZt Z) (gZc Z) H locs cells slots (gEnd Z) g
def gWX (Z : gZ) (H : Heap) (locs : List Loc) (cells slots : Nat) (g : JFrame) (q : Nat) : Prop := vx_W (gZp Z) (gZl Z) (gZe Z) (gZr Z) (gZs' Z) (gZm Z) (gZa Z) (gZb Z) (gZt Z) (gZc Z) H locs cells slots (gEnd Z) g q
/-- the run stands at H: the ghost heap M names it, k cells and n slots are left -/
def gAt (Z : gZ) (k n : Nat) (M : gM) (H : Heap) (locs : List Loc) (cells slots : Nat) : Prop :=
  gInv Z.1 M H ∧ (gZs' Z).heap.size ≤ H.size ∧ (∀ z ∈ locs, gFr Z.1 z.base) ∧ cells + k ≤ (gZr Z).cells ∧ slots + n ≤ (gZr Z).slots
def G (Z : gZ) (k n : Nat) (M : gM) (pc : Nat) (loc : List (Nat × Value)) (st : List Value) : Prop :=
  ∀ (H : Heap) (locs : List Loc) (cells slots : Nat) (ls : Array Slot), gAt Z k n M H locs cells slots → lv_has ls (gZc Z).maxLocals loc → gW Z H locs cells slots (F0 (gZm Z) pc ls st)
/-- q, of the class En, is thrown at pc -/
def GX (Z : gZ) (k n : Nat) (M : gM) (pc : Nat) (loc : List (Nat × Value)) (En : String) (q : Nat) : Prop :=
  ∀ (H : Heap) (locs : List Loc) (cells slots : Nat) (ls : Array Slot) (st : List Value) (ce : Cell), gAt Z k n M H locs cells slots → lv_has ls (gZc Z).maxLocals loc → H[q]? = some ce → ce.vm = .none → (gZs' Z).vm.findClass En = some ce.cls → gWX Z H locs cells slots (F0 (gZm Z) pc ls st) q
/-- what every row of a method uses -/
def gC (Z : gZ) (own : String) (cc : ByteArray) (nL : Nat) (rt : Option FieldType) (d0 : Nat) : Prop :=
  ((gZp Z).tables.exec = Jvm.exec ∧ (gZc Z).code = cc ∧ (gZc Z).maxLocals = nL ∧ (gZs' Z).vm.findClass own = some (gZm Z).cls ∧ ∀ w ∈ lw_all, w.before (gZa Z) (gZs' Z) = true) ∧
  ((gZt Z).locks = false ∧ (gZt Z).sig.returnType = rt ∧ (gZl Z).stackTraces = false) ∧ gK Z.1 (gZs' Z) ∧ (Z.1.2.2.1.size ≤ (gZs' Z).heap.size ∧ ∀ q : Nat, q < Z.1.2.2.1.size → (gZs' Z).heap[q]? = Z.1.2.2.1[q]?) ∧ (d0 ≤ (gZr Z).frames ∧ 100 * d0 + 3400 ≤ (gZr Z).locals)
/-- the parts of what holds all through, by name -/
theorem gK.zs {E : gE} {U : State} (h : gK E U) : ∀ z ∈ gZs, va_Z z.1 z.2.1 z.2.2.1 (vi z.2.2.2) (gFr E) U E.2.2.1 := h.2.2.1
theorem gK.us {E : gE} {U : State} (h : gK E U) : vx_Zq Bundle.tN "UNASSIGNED_STACK" Bundle.steD (gFr E) U E.2.2.1 := h.2.2.2.1.1
theorem gK.ss {E : gE} {U : State} (h : gK E U) : vx_Zq Bundle.tN "SUPPRESSED_SENTINEL" Bundle.listD (gFr E) U E.2.2.1 := h.2.2.2.1.2
theorem gK.aoO {E : gE} {U : State} (h : gK E U) : va_AO "java/lang/Object" U := h.2.2.2.2.1.1
theorem gK.aoF {E : gE} {U : State} (h : gK E U) : va_AO "Appealrent$Figure" U := h.2.2.2.2.1.2.1
theorem gK.aoS {E : gE} {U : State} (h : gK E U) : va_AO "java/lang/String" U := h.2.2.2.2.1.2.2
theorem gK.fw {E : gE} {U : State} (h : gK E U) : ∀ f ∈ gFw, va_Fw f.1 f.2.1 f.2.2 U := h.2.2.2.2.2.1
theorem gK.mi {E : gE} {U : State} (h : gK E U) : va_Mi "[Ljava/lang/Object;" (E.2.2.2.2 0) U := h.2.2.2.2.2.2.1
theorem gK.nc {E : gE} {U : State} (h : gK E U) : ∀ c ∈ gNcs, va_Nc c.1 c.2 U := h.2.2.2.2.2.2.2.1
theorem gK.st {E : gE} {U : State} (h : gK E U) : gStat E := h.2.2.2.2.2.2.2.2.1
theorem gK.kd {E : gE} {U : State} (h : gK E U) : gKd E U := h.2.2.2.2.2.2.2.2.2
theorem gK.sr {E : gE} {U : State} (h : gK E U) : ∀ r ∈ gStrs, vk_R r.1 r.2.1 r.2.2.1 (E.2.2.2.2 (2 * r.2.2.2 + 1)) U := h.2.1.2
theorem gK.nw {E : gE} {U : State} (h : gK E U) : ∀ w ∈ lw_tbl, gNw w = true → va_Nw w U := h.2.1.1
section GR
variable {Z : gZ} {own : String} {cc : ByteArray} {nL : Nat} {rt : Option FieldType} {d0 k n pc : Nat} {M : gM} {loc : List (Nat × Value)} {st : List Value}
theorem gC.x (C : gC Z own cc nL rt d0) : (gZp Z).tables.exec = Jvm.exec := C.1.1
theorem gC.b (C : gC Z own cc nL rt d0) : (gZc Z).code = cc := C.1.2.1
theorem gC.ml (C : gC Z own cc nL rt d0) : (gZc Z).maxLocals = nL := C.1.2.2.1
theorem gC.ow (C : gC Z own cc nL rt d0) : (gZs' Z).vm.findClass own = some (gZm Z).cls := C.1.2.2.2.1
theorem gC.ts (C : gC Z own cc nL rt d0) : ∀ w ∈ lw_all, w.before (gZa Z) (gZs' Z) = true := C.1.2.2.2.2
theorem gC.K (C : gC Z own cc nL rt d0) : va_K Z.1.1 gCl (gTys Z.1) (gZs' Z) := C.2.2.1.1
theorem gC.fr (C : gC Z own cc nL rt d0) : d0 ≤ (gZr Z).frames ∧ 100 * d0 + 3400 ≤ (gZr Z).locals := C.2.2.2.2
theorem gC.nw (C : gC Z own cc nL rt d0) {w : Cond} (h : w ∈ lw_tbl) (g : gNw w = true) (ht : w.onTables = true) : w.before (gZa Z) (gZs' Z) = true := va_Nw.use ht (C.2.2.1.2.1.1 w h g)
theorem gAt.S {H : Heap} {locs : List Loc} {cells slots : Nat} (C : gC Z own cc nL rt d0) (h : gAt Z k n M H locs cells slots) : va_S (gFr Z.1) (gZs' Z).heap H locs := by
  refine ⟨h.2.1, fun q h1 h2 => ?_, h.2.2.1⟩
  have h3 : q < Z.1.2.2.1.size := Nat.lt_of_not_le h2
  rw [h.1.1.2 q h3, C.2.2.2.1.2 q h3]
/-- rows that touch no heap -/
theorem G.lift {pc1 : Nat} {st1 : List Value} (h : ∀ (H : Heap) (locs : List Loc) (cells slots : Nat) (ls : Array Slot), lv_has ls (gZc Z).maxLocals loc → gW Z H locs cells slots (F0 (gZm Z) pc1 ls st1) → gW Z H locs cells slots (F0 (gZm Z) pc ls st)) (kk : G Z k n M pc1 loc st1) : G Z k n M pc loc st :=
  fun H locs cells slots ls hA hl => h H locs cells slots ls hl (kk H locs cells slots ls hA hl)
theorem G.weak {k' n' : Nat} (hk : k' ≤ k) (hn : n' ≤ n) (kk : G Z k' n' M pc loc st) : G Z k n M pc loc st :=
  fun H locs cells slots ls hA hl => kk H locs cells slots ls ⟨hA.1, hA.2.1, hA.2.2.1, by have := hA.2.2.2.1; omega, by have := hA.2.2.2.2; omega⟩ hl
theorem GX.weak {k' n' : Nat} {En : String} {q : Nat} (hk : k' ≤ k) (hn : n' ≤ n) (kk : GX Z k' n' M pc loc En q) : GX Z k n M pc loc En q :=
  fun H locs cells slots ls st ce hA => kk H locs cells slots ls st ce ⟨hA.1, hA.2.1, hA.2.2.1, by have := hA.2.2.2.1; omega, by have := hA.2.2.2.2; omega⟩
theorem G.pure (h : (∀ (a : Nat) (x : gEnt), Z.1.2.2.2.1 a = some x → M a = some (0, x)) → G Z k n M pc loc st) : G Z k n M pc loc st :=
  fun H locs cells slots ls hA hl => h hA.1.2.2 H locs cells slots ls hA hl
/-- other locals that say less -/
theorem G.locs {loc1 : List (Nat × Value)} (h : ∀ q ∈ loc1, q ∈ loc) (kk : G Z k n M pc loc1 st) : G Z k n M pc loc st :=
  fun H locs cells slots ls hA hl => kk H locs cells slots ls hA ⟨hl.1, hl.2.1, fun q hq => hl.2.2 q (h q hq)⟩
end GR
