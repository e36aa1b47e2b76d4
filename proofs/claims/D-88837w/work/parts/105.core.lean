def zNC : List (String × String) := [("LinesPromised", "LinesPromised$Wrong"), ("java/util/ArrayList", "LinesPromised$Wrong"), ("LinesPromised$Reader", "LinesPromised$Wrong"), ("LinesPromisedModel", "LinesPromised$Wrong"), ("LinesPromised$Town", "LinesPromised$Wrong"), ("LinesPromised$Order", "LinesPromised$Wrong"), ("LinesPromised$Clause", "LinesPromised$Wrong"), ("LinesPromised$Not", "LinesPromised$Wrong"), ("LinesPromised$Fact", "LinesPromised$Wrong"), ("LinesPromised$Both", "LinesPromised$Wrong"), ("LinesPromised$Either", "LinesPromised$Wrong"), ("LinesPromised$Scheme", "LinesPromised$Wrong"), ("LinesPromised$Plan", "LinesPromised$Wrong"), ("LinesPromised$Torn", "LinesPromised$Wrong"), ("LinesPromised$Claim", "LinesPromised$Wrong"), ("LinesPromised$Bill", "LinesPromised$Wrong"), ("LinesPromised$Vote", "LinesPromised$Wrong"), ("LinesPromised$Word", "LinesPromised$Wrong"), ("LinesPromised$Call", "LinesPromised$Wrong"), ("LinesPromised$Loan", "LinesPromised$Wrong"), ("LinesPromised$Payments", "LinesPromised$Wrong"), ("LinesPromised$Image", "LinesPromised$Wrong"), ("LinesPromised$Bytes", "LinesPromised$Wrong"), ("LinesPromised$Shorts", "LinesPromised$Wrong"), ("LinesPromised$Ints", "LinesPromised$Wrong"), ("LinesPromised", "LinesPromised$Torn"), ("java/util/ArrayList", "LinesPromised$Torn"), ("LinesPromised$Reader", "LinesPromised$Torn"), ("LinesPromisedModel", "LinesPromised$Torn"), ("LinesPromised$Town", "LinesPromised$Torn"), ("LinesPromised$Order", "LinesPromised$Torn"), ("LinesPromised$Wrong", "LinesPromised$Torn"), ("LinesPromised$Clause", "LinesPromised$Torn"), ("LinesPromised$Not", "LinesPromised$Torn"), ("LinesPromised$Fact", "LinesPromised$Torn"), ("LinesPromised$Both", "LinesPromised$Torn"), ("LinesPromised$Either", "LinesPromised$Torn"), ("LinesPromised$Scheme", "LinesPromised$Torn"), ("LinesPromised$Plan", "LinesPromised$Torn"), ("LinesPromised$Claim", "LinesPromised$Torn"), ("LinesPromised$Bill", "LinesPromised$Torn"), ("LinesPromised$Vote", "LinesPromised$Torn"), ("LinesPromised$Word", "LinesPromised$Torn"), ("LinesPromised$Call", "LinesPromised$Torn"), ("LinesPromised$Loan", "LinesPromised$Torn"), ("LinesPromised$Payments", "LinesPromised$Torn"), ("LinesPromised$Image", "LinesPromised$Torn"), ("LinesPromised$Bytes", "LinesPromised$Torn"), ("LinesPromised$Shorts", "LinesPromised$Torn"), ("LinesPromised$Ints", "LinesPromised$Torn"), ("LinesPromised", "LinesPromised$Scheme"), ("java/util/ArrayList", "LinesPromised$Scheme"), ("LinesPromised$Reader", "LinesPromised$Scheme"), ("LinesPromisedModel", "LinesPromised$Scheme"), ("LinesPromised$Town", "LinesPromised$Scheme"), ("LinesPromised$Order", "LinesPromised$Scheme"), ("LinesPromised$Wrong", "LinesPromised$Scheme"), ("LinesPromised$Clause", "LinesPromised$Scheme"), ("LinesPromised$Not", "LinesPromised$Scheme"), ("LinesPromised$Fact", "LinesPromised$Scheme"), ("LinesPromised$Both", "LinesPromised$Scheme"), ("LinesPromised$Either", "LinesPromised$Scheme"), ("LinesPromised$Torn", "LinesPromised$Scheme"), ("LinesPromised$Claim", "LinesPromised$Scheme"), ("LinesPromised$Vote", "LinesPromised$Scheme"), ("LinesPromised$Word", "LinesPromised$Scheme"), ("LinesPromised$Call", "LinesPromised$Scheme"), ("LinesPromised$Loan", "LinesPromised$Scheme"), ("LinesPromised$Payments", "LinesPromised$Scheme"), ("LinesPromised$Image", "LinesPromised$Scheme"), ("LinesPromised$Bytes", "LinesPromised$Scheme"), ("LinesPromised$Shorts", "LinesPromised$Scheme"), ("LinesPromised$Ints", "LinesPromised$Scheme"), ("LinesPromised", "LinesPromised$Bytes"), ("java/util/ArrayList", "LinesPromised$Bytes"), ("LinesPromised$Reader", "LinesPromised$Bytes"), ("LinesPromisedModel", "LinesPromised$Bytes"), ("LinesPromised$Town", "LinesPromised$Bytes"), ("LinesPromised$Order", "LinesPromised$Bytes"), ("LinesPromised$Wrong", "LinesPromised$Bytes"), ("LinesPromised$Clause", "LinesPromised$Bytes"), ("LinesPromised$Not", "LinesPromised$Bytes"), ("LinesPromised$Fact", "LinesPromised$Bytes"), ("LinesPromised$Both", "LinesPromised$Bytes"), ("LinesPromised$Either", "LinesPromised$Bytes"), ("LinesPromised$Scheme", "LinesPromised$Bytes"), ("LinesPromised$Plan", "LinesPromised$Bytes"), ("LinesPromised$Torn", "LinesPromised$Bytes"), ("LinesPromised$Claim", "LinesPromised$Bytes"), ("LinesPromised$Bill", "LinesPromised$Bytes"), ("LinesPromised$Vote", "LinesPromised$Bytes"), ("LinesPromised$Word", "LinesPromised$Bytes"), ("LinesPromised$Call", "LinesPromised$Bytes"), ("LinesPromised$Loan", "LinesPromised$Bytes"), ("LinesPromised$Payments", "LinesPromised$Bytes"), ("LinesPromised$Image", "LinesPromised$Bytes"), ("LinesPromised$Shorts", "LinesPromised$Bytes"), ("LinesPromised$Ints", "LinesPromised$Bytes"), ("LinesPromised", "LinesPromised$Ints"), ("java/util/ArrayList", "LinesPromised$Ints"), ("LinesPromised$Reader", "LinesPromised$Ints"), ("LinesPromisedModel", "LinesPromised$Ints"), ("LinesPromised$Town", "LinesPromised$Ints"), ("LinesPromised$Order", "LinesPromised$Ints"), ("LinesPromised$Wrong", "LinesPromised$Ints"), ("LinesPromised$Clause", "LinesPromised$Ints"), ("LinesPromised$Not", "LinesPromised$Ints"), ("LinesPromised$Fact", "LinesPromised$Ints"), ("LinesPromised$Both", "LinesPromised$Ints"), ("LinesPromised$Either", "LinesPromised$Ints"), ("LinesPromised$Scheme", "LinesPromised$Ints"), ("LinesPromised$Plan", "LinesPromised$Ints"), ("LinesPromised$Torn", "LinesPromised$Ints"), ("LinesPromised$Claim", "LinesPromised$Ints"), ("LinesPromised$Bill", "LinesPromised$Ints"), ("LinesPromised$Vote", "LinesPromised$Ints"), ("LinesPromised$Word", "LinesPromised$Ints"), ("LinesPromised$Call", "LinesPromised$Ints"), ("LinesPromised$Loan", "LinesPromised$Ints"), ("LinesPromised$Payments", "LinesPromised$Ints"), ("LinesPromised$Image", "LinesPromised$Ints"), ("LinesPromised$Bytes", "LinesPromised$Ints"), ("LinesPromised$Shorts", "LinesPromised$Ints"), ("LinesPromised", "LinesPromised$Plan"), ("java/util/ArrayList", "LinesPromised$Plan"), ("LinesPromised$Reader", "LinesPromised$Plan"), ("LinesPromisedModel", "LinesPromised$Plan"), ("LinesPromised$Town", "LinesPromised$Plan"), ("LinesPromised$Order", "LinesPromised$Plan"), ("LinesPromised$Wrong", "LinesPromised$Plan"), ("LinesPromised$Clause", "LinesPromised$Plan"), ("LinesPromised$Not", "LinesPromised$Plan"), ("LinesPromised$Fact", "LinesPromised$Plan"), ("LinesPromised$Both", "LinesPromised$Plan"), ("LinesPromised$Either", "LinesPromised$Plan"), ("LinesPromised$Scheme", "LinesPromised$Plan"), ("LinesPromised$Torn", "LinesPromised$Plan"), ("LinesPromised$Claim", "LinesPromised$Plan"), ("LinesPromised$Bill", "LinesPromised$Plan"), ("LinesPromised$Vote", "LinesPromised$Plan"), ("LinesPromised$Word", "LinesPromised$Plan"), ("LinesPromised$Call", "LinesPromised$Plan"), ("LinesPromised$Loan", "LinesPromised$Plan"), ("LinesPromised$Payments", "LinesPromised$Plan"), ("LinesPromised$Image", "LinesPromised$Plan"), ("LinesPromised$Bytes", "LinesPromised$Plan"), ("LinesPromised$Shorts", "LinesPromised$Plan"), ("LinesPromised$Ints", "LinesPromised$Plan"), ("LinesPromised", "LinesPromised$Bill"), ("java/util/ArrayList", "LinesPromised$Bill"), ("LinesPromised$Reader", "LinesPromised$Bill"), ("LinesPromisedModel", "LinesPromised$Bill"), ("LinesPromised$Town", "LinesPromised$Bill"), ("LinesPromised$Order", "LinesPromised$Bill"), ("LinesPromised$Wrong", "LinesPromised$Bill"), ("LinesPromised$Clause", "LinesPromised$Bill"), ("LinesPromised$Not", "LinesPromised$Bill"), ("LinesPromised$Fact", "LinesPromised$Bill"), ("LinesPromised$Both", "LinesPromised$Bill"), ("LinesPromised$Either", "LinesPromised$Bill"), ("LinesPromised$Scheme", "LinesPromised$Bill"), ("LinesPromised$Plan", "LinesPromised$Bill"), ("LinesPromised$Torn", "LinesPromised$Bill"), ("LinesPromised$Claim", "LinesPromised$Bill"), ("LinesPromised$Vote", "LinesPromised$Bill"), ("LinesPromised$Word", "LinesPromised$Bill"), ("LinesPromised$Call", "LinesPromised$Bill"), ("LinesPromised$Loan", "LinesPromised$Bill"), ("LinesPromised$Payments", "LinesPromised$Bill"), ("LinesPromised$Image", "LinesPromised$Bill"), ("LinesPromised$Bytes", "LinesPromised$Bill"), ("LinesPromised$Shorts", "LinesPromised$Bill"), ("LinesPromised$Ints", "LinesPromised$Bill"), ("LinesPromised", "LinesPromised$Claim"), ("java/util/ArrayList", "LinesPromised$Claim"), ("LinesPromised$Reader", "LinesPromised$Claim"), ("LinesPromisedModel", "LinesPromised$Claim"), ("LinesPromised$Town", "LinesPromised$Claim"), ("LinesPromised$Order", "LinesPromised$Claim"), ("LinesPromised$Wrong", "LinesPromised$Claim"), ("LinesPromised$Clause", "LinesPromised$Claim"), ("LinesPromised$Not", "LinesPromised$Claim"), ("LinesPromised$Fact", "LinesPromised$Claim"), ("LinesPromised$Both", "LinesPromised$Claim"), ("LinesPromised$Either", "LinesPromised$Claim"), ("LinesPromised$Scheme", "LinesPromised$Claim"), ("LinesPromised$Plan", "LinesPromised$Claim"), ("LinesPromised$Torn", "LinesPromised$Claim"), ("LinesPromised$Bill", "LinesPromised$Claim"), ("LinesPromised$Vote", "LinesPromised$Claim"), ("LinesPromised$Word", "LinesPromised$Claim"), ("LinesPromised$Call", "LinesPromised$Claim"), ("LinesPromised$Loan", "LinesPromised$Claim"), ("LinesPromised$Payments", "LinesPromised$Claim"), ("LinesPromised$Image", "LinesPromised$Claim"), ("LinesPromised$Bytes", "LinesPromised$Claim"), ("LinesPromised$Shorts", "LinesPromised$Claim"), ("LinesPromised$Ints", "LinesPromised$Claim"), ("LinesPromised", "java/lang/String"), ("java/util/ArrayList", "java/lang/String"), ("LinesPromised$Reader", "java/lang/String"), ("LinesPromisedModel", "java/lang/String"), ("LinesPromised$Town", "java/lang/String"), ("LinesPromised$Order", "java/lang/String"), ("LinesPromised$Wrong", "java/lang/String"), ("LinesPromised$Clause", "java/lang/String"), ("LinesPromised$Not", "java/lang/String"), ("LinesPromised$Fact", "java/lang/String"), ("LinesPromised$Both", "java/lang/String"), ("LinesPromised$Either", "java/lang/String"), ("LinesPromised$Scheme", "java/lang/String"), ("LinesPromised$Plan", "java/lang/String"), ("LinesPromised$Torn", "java/lang/String"), ("LinesPromised$Claim", "java/lang/String"), ("LinesPromised$Bill", "java/lang/String"), ("LinesPromised$Vote", "java/lang/String"), ("LinesPromised$Word", "java/lang/String"), ("LinesPromised$Call", "java/lang/String"), ("LinesPromised$Loan", "java/lang/String"), ("LinesPromised$Payments", "java/lang/String"), ("LinesPromised$Image", "java/lang/String"), ("LinesPromised$Bytes", "java/lang/String"), ("LinesPromised$Shorts", "java/lang/String"), ("LinesPromised$Ints", "java/lang/String"), ("java/lang/Integer", "java/lang/String"), ("LinesPromised", "LinesPromised$Call"), ("java/util/ArrayList", "LinesPromised$Call"), ("LinesPromised$Reader", "LinesPromised$Call"), ("LinesPromisedModel", "LinesPromised$Call"), ("LinesPromised$Town", "LinesPromised$Call"), ("LinesPromised$Order", "LinesPromised$Call"), ("LinesPromised$Wrong", "LinesPromised$Call"), ("LinesPromised$Clause", "LinesPromised$Call"), ("LinesPromised$Not", "LinesPromised$Call"), ("LinesPromised$Fact", "LinesPromised$Call"), ("LinesPromised$Both", "LinesPromised$Call"), ("LinesPromised$Either", "LinesPromised$Call"), ("LinesPromised$Scheme", "LinesPromised$Call"), ("LinesPromised$Plan", "LinesPromised$Call"), ("LinesPromised$Torn", "LinesPromised$Call"), ("LinesPromised$Claim", "LinesPromised$Call"), ("LinesPromised$Bill", "LinesPromised$Call"), ("LinesPromised$Vote", "LinesPromised$Call"), ("LinesPromised$Word", "LinesPromised$Call"), ("LinesPromised$Payments", "LinesPromised$Call"), ("LinesPromised$Image", "LinesPromised$Call"), ("LinesPromised$Bytes", "LinesPromised$Call"), ("LinesPromised$Shorts", "LinesPromised$Call"), ("LinesPromised$Ints", "LinesPromised$Call"), ("LinesPromised", "LinesPromised$Loan"), ("java/util/ArrayList", "LinesPromised$Loan"), ("LinesPromised$Reader", "LinesPromised$Loan"), ("LinesPromisedModel", "LinesPromised$Loan"), ("LinesPromised$Town", "LinesPromised$Loan"), ("LinesPromised$Order", "LinesPromised$Loan"), ("LinesPromised$Wrong", "LinesPromised$Loan"), ("LinesPromised$Clause", "LinesPromised$Loan"), ("LinesPromised$Not", "LinesPromised$Loan"), ("LinesPromised$Fact", "LinesPromised$Loan"), ("LinesPromised$Both", "LinesPromised$Loan"), ("LinesPromised$Either", "LinesPromised$Loan"), ("LinesPromised$Scheme", "LinesPromised$Loan"), ("LinesPromised$Plan", "LinesPromised$Loan"), ("LinesPromised$Torn", "LinesPromised$Loan"), ("LinesPromised$Claim", "LinesPromised$Loan"), ("LinesPromised$Bill", "LinesPromised$Loan"), ("LinesPromised$Vote", "LinesPromised$Loan"), ("LinesPromised$Word", "LinesPromised$Loan"), ("LinesPromised$Call", "LinesPromised$Loan"), ("LinesPromised$Payments", "LinesPromised$Loan"), ("LinesPromised$Image", "LinesPromised$Loan"), ("LinesPromised$Bytes", "LinesPromised$Loan"), ("LinesPromised$Shorts", "LinesPromised$Loan"), ("LinesPromised$Ints", "LinesPromised$Loan"), ("java/lang/Throwable", "LinesPromised$Scheme"), ("java/lang/String", "LinesPromised$Scheme"), ("[Ljava/lang/Object;", "LinesPromised$Scheme"), ("[[C", "LinesPromised$Scheme"), ("[I", "LinesPromised$Scheme"), ("[J", "LinesPromised$Scheme"), ("[B", "LinesPromised$Scheme"), ("[C", "LinesPromised$Scheme"), ("[[I", "LinesPromised$Scheme"), ("[LLinesPromised$Sheet;", "LinesPromised$Scheme"), ("[[J", "LinesPromised$Scheme"), ("[Z", "LinesPromised$Scheme"), ("[S", "LinesPromised$Scheme"), ("java/lang/Throwable", "LinesPromised$Bytes"), ("java/lang/String", "LinesPromised$Bytes"), ("[Ljava/lang/Object;", "LinesPromised$Bytes"), ("[[C", "LinesPromised$Bytes"), ("[I", "LinesPromised$Bytes"), ("[J", "LinesPromised$Bytes"), ("[B", "LinesPromised$Bytes"), ("[C", "LinesPromised$Bytes"), ("[[I", "LinesPromised$Bytes"), ("[LLinesPromised$Sheet;", "LinesPromised$Bytes"), ("[[J", "LinesPromised$Bytes"), ("[Z", "LinesPromised$Bytes"), ("[S", "LinesPromised$Bytes"), ("java/lang/Throwable", "LinesPromised$Ints"), ("java/lang/String", "LinesPromised$Ints"), ("[Ljava/lang/Object;", "LinesPromised$Ints"), ("[[C", "LinesPromised$Ints"), ("[I", "LinesPromised$Ints"), ("[J", "LinesPromised$Ints"), ("[B", "LinesPromised$Ints"), ("[C", "LinesPromised$Ints"), ("[[I", "LinesPromised$Ints"), ("[LLinesPromised$Sheet;", "LinesPromised$Ints"), ("[[J", "LinesPromised$Ints"), ("[Z", "LinesPromised$Ints"), ("[S", "LinesPromised$Ints"), ("java/lang/Throwable", "LinesPromised$Plan"), ("java/lang/String", "LinesPromised$Plan"), ("[Ljava/lang/Object;", "LinesPromised$Plan"), ("[[C", "LinesPromised$Plan"), ("[I", "LinesPromised$Plan"), ("[J", "LinesPromised$Plan"), ("[B", "LinesPromised$Plan"), ("[C", "LinesPromised$Plan"), ("[[I", "LinesPromised$Plan"), ("[LLinesPromised$Sheet;", "LinesPromised$Plan"), ("[[J", "LinesPromised$Plan"), ("[Z", "LinesPromised$Plan"), ("[S", "LinesPromised$Plan"), ("java/lang/Throwable", "LinesPromised$Bill"), ("java/lang/String", "LinesPromised$Bill"), ("[Ljava/lang/Object;", "LinesPromised$Bill"), ("[[C", "LinesPromised$Bill"), ("[I", "LinesPromised$Bill"), ("[J", "LinesPromised$Bill"), ("[B", "LinesPromised$Bill"), ("[C", "LinesPromised$Bill"), ("[[I", "LinesPromised$Bill"), ("[LLinesPromised$Sheet;", "LinesPromised$Bill"), ("[[J", "LinesPromised$Bill"), ("[Z", "LinesPromised$Bill"), ("[S", "LinesPromised$Bill"), ("java/lang/Throwable", "LinesPromised$Claim"), ("java/lang/String", "LinesPromised$Claim"), ("[Ljava/lang/Object;", "LinesPromised$Claim"), ("[[C", "LinesPromised$Claim"), ("[I", "LinesPromised$Claim"), ("[J", "LinesPromised$Claim"), ("[B", "LinesPromised$Claim"), ("[C", "LinesPromised$Claim"), ("[[I", "LinesPromised$Claim"), ("[LLinesPromised$Sheet;", "LinesPromised$Claim"), ("[[J", "LinesPromised$Claim"), ("[Z", "LinesPromised$Claim"), ("[S", "LinesPromised$Claim"), ("java/lang/Throwable", "java/lang/String"), ("[Ljava/lang/Object;", "java/lang/String"), ("[[C", "java/lang/String"), ("[I", "java/lang/String"), ("[J", "java/lang/String"), ("[B", "java/lang/String"), ("[C", "java/lang/String"), ("[[I", "java/lang/String"), ("[LLinesPromised$Sheet;", "java/lang/String"), ("[[J", "java/lang/String"), ("[Z", "java/lang/String"), ("[S", "java/lang/String"), ("java/lang/Throwable", "LinesPromised$Call"), ("java/lang/String", "LinesPromised$Call"), ("[Ljava/lang/Object;", "LinesPromised$Call"), ("[[C", "LinesPromised$Call"), ("[I", "LinesPromised$Call"), ("[J", "LinesPromised$Call"), ("[B", "LinesPromised$Call"), ("[C", "LinesPromised$Call"), ("[[I", "LinesPromised$Call"), ("[LLinesPromised$Sheet;", "LinesPromised$Call"), ("[[J", "LinesPromised$Call"), ("[Z", "LinesPromised$Call"), ("[S", "LinesPromised$Call"), ("java/lang/Throwable", "LinesPromised$Loan"), ("java/lang/String", "LinesPromised$Loan"), ("[Ljava/lang/Object;", "LinesPromised$Loan"), ("[[C", "LinesPromised$Loan"), ("[I", "LinesPromised$Loan"), ("[J", "LinesPromised$Loan"), ("[B", "LinesPromised$Loan"), ("[C", "LinesPromised$Loan"), ("[[I", "LinesPromised$Loan"), ("[LLinesPromised$Sheet;", "LinesPromised$Loan"), ("[[J", "LinesPromised$Loan"), ("[Z", "LinesPromised$Loan"), ("[S", "LinesPromised$Loan"), ("LinesPromised", "LinesPromised$Sheet"), ("java/util/ArrayList", "LinesPromised$Sheet"), ("LinesPromised$Reader", "LinesPromised$Sheet"), ("LinesPromisedModel", "LinesPromised$Sheet"), ("LinesPromised$Town", "LinesPromised$Sheet"), ("LinesPromised$Order", "LinesPromised$Sheet"), ("LinesPromised$Wrong", "LinesPromised$Sheet"), ("LinesPromised$Clause", "LinesPromised$Sheet"), ("LinesPromised$Not", "LinesPromised$Sheet"), ("LinesPromised$Fact", "LinesPromised$Sheet"), ("LinesPromised$Both", "LinesPromised$Sheet"), ("LinesPromised$Either", "LinesPromised$Sheet"), ("LinesPromised$Scheme", "LinesPromised$Sheet"), ("LinesPromised$Plan", "LinesPromised$Sheet"), ("LinesPromised$Torn", "LinesPromised$Sheet"), ("LinesPromised$Claim", "LinesPromised$Sheet"), ("LinesPromised$Bill", "LinesPromised$Sheet"), ("LinesPromised$Vote", "LinesPromised$Sheet"), ("LinesPromised$Word", "LinesPromised$Sheet"), ("LinesPromised$Call", "LinesPromised$Sheet"), ("LinesPromised$Loan", "LinesPromised$Sheet"), ("LinesPromised$Payments", "LinesPromised$Sheet"), ("LinesPromised$Image", "LinesPromised$Sheet"), ("java/lang/Throwable", "LinesPromised$Sheet"), ("java/lang/String", "LinesPromised$Sheet")]
/-! what is known of the tables all through a run -/
def znest : Cond → Bool
  | .fieldLinkNest _ _ _ _ _ _ => true
  | .methodLinkNest _ _ _ _ => true
  | .castable _ _ => true
  | .declares _ => true
  | .arrayOver _ => true
  | .interfaceMethod _ _ _ _ => true
  | .interfaceEntry _ _ => true
  | .publicMethod _ => true
  | .unhidden _ _ _ => true
  | _ => false
def zarN : FieldType → String
  | .object C => C
  | .array t => (FieldType.array t).toString
  | _ => ""
def zRA (s : State) (cA : ClassId) (ty : FieldType) : Prop := s.vm.findClass ("[" ++ ty.toString) = some cA ∧ ∃ (kA : Class) (comp : ClassId), s.vm.classes[cA]? = some kA ∧ kA.kind = .array comp ty ∧ (ty.isReference = true → s.vm.findClass (zarN ty) = some comp ∧ ∃ kc : Class, s.vm.classes[comp]? = some kc)
theorem zRA.moved {u U : State} (hvm : u.vm.Alike U.vm) {cA : ClassId} {ty : FieldType} (h : zRA u cA ty) : zRA U cA ty := by
  obtain ⟨h1, kA, comp, h2, h3, h4⟩ := h
  obtain ⟨k', hk', he⟩ := hvm.2.2 _ _ h2
  refine ⟨by rw [hvm.findClass]; exact h1, k', comp, hk', by rw [he]; exact h3, fun hr => ?_⟩
  obtain ⟨h5, kc, h6⟩ := h4 hr
  obtain ⟨kc', hkc', -⟩ := hvm.2.2 _ _ h6
  exact ⟨by rw [hvm.findClass]; exact h5, kc', hkc'⟩
theorem zRA.arr {s : State} {cA : ClassId} {ty : FieldType} (h : zRA s cA ty) (n : Nat) (z : Nat → Value) : s.isArrayOf (arrV cA n z) ty := by
  obtain ⟨-, kA, comp, h2, h3, -⟩ := h
  exact ⟨fun q hq => (by cases hq), kA, h2, comp, h3⟩
/-- statics that nobody writes: class, name, descriptor, value -/
def wO (w : Wd) (i : Nat) : Option Nat := if w.K (100 + i) = 0 then none else some (w.K (200 + i))
def zst (w : Wd) : List (String × String × String × Value) := [("java/util/ArrayList", "DEFAULTCAPACITY_EMPTY_ELEMENTDATA", "[Ljava/lang/Object;", .ref (w.K 1)), ("java/util/ArrayList", "EMPTY_ELEMENTDATA", "[Ljava/lang/Object;", .ref (w.K 2)), ("java/lang/String", "COMPACT_STRINGS", "Z", .int 1), ("java/lang/Throwable", "UNASSIGNED_STACK", "[Ljava/lang/StackTraceElement;", va_rf (wO w 1)), ("java/lang/Throwable", "SUPPRESSED_SENTINEL", "Ljava/util/List;", va_rf (wO w 2)), ("jdk/internal/util/Preconditions", "SIOOBE_FORMATTER", "Ljava/util/function/BiFunction;", va_rf (wO w 3))]
/-- the words as texts: entry in the constant pool, text -/
def zsx : Nat → Nat × String := fun i => match i with | 0 => (89, "slope ") | 1 => (91, "close ") | 2 => (93, "stroke ") | 3 => (95, "call ") | 4 => (97, "gap ") | 5 => (99, "park ") | _ => (101, "let ")
def zKs (w : Wd) (s : State) : Prop := ∀ i, i < 7 → vk_R RX2 (zsx i).1 (zsx i).2 (w.K (10 + i)) s ∧ va_O "java/lang/String" (w.K (10 + i)) (fun a => w.H.size ≤ a) s w.H ∧ va_OF "java/lang/String" "coder" "B" (.int 0) (w.K (10 + i)) (fun a => w.H.size ≤ a) s w.H ∧ va_OF "java/lang/String" "value" "[B" (.ref (w.K (20 + i))) (w.K (10 + i)) (fun a => w.H.size ≤ a) s w.H
def Kx (w : Wd) (s : State) : Prop := (∀ q ∈ zst w, va_Z q.1 q.2.1 q.2.2.1 q.2.2.2 (fun a => w.H.size ≤ a) s w.H) ∧ va_Mi "java/util/ArrayList" (w.K 3) s ∧ va_Mi "[Ljava/lang/Object;" (w.K 4) s ∧ zKs w s
def Kn (w : Wd) (s : State) : Prop :=
  (∀ wd ∈ lw_all, ∀ a : Array Value, wd.before a s = true) ∧
  (∀ wd ∈ lw_tbl, znest wd = true → va_Nw wd s) ∧
  (∀ k, zok k = true → u_Kn s (zcl k).1 (zcl k).2.1 (zcl k).2.2 (w.C k) (w.S k)) ∧
  (∀ c, c < 11 → zRA s (w.A c) (zat c)) ∧
  (∀ q ∈ zNC, va_Nc q.1 q.2 s) ∧ Kx w s
theorem Kx.moved {w : Wd} {s U : State} (hW : s.WarmedH U.vm) (h : Kx w s) : Kx w U := ⟨fun q hq => (h.1 q hq).moved hW.alike, h.2.1.moved hW.alike, h.2.2.1.moved hW.alike, fun i hi => by
  obtain ⟨h1, h2, h3, h4⟩ := h.2.2.2 i hi
  exact ⟨h1.warm hW, h2.moved hW.alike, h3.moved hW.alike, h4.moved hW.alike⟩⟩
theorem zAO {ty : FieldType} {s U : State} (hW : s.WarmedH U.vm) (hZ : va_Nw (.arrayOver ty) s) : va_Nw (.arrayOver ty) U := by
  have h := Cond.arrayOver_setVmC (args := #[]) (s := s) (vm' := U.vm) hW.alike ty
  have e : (Cond.arrayOver ty).before #[] U = (Cond.arrayOver ty).before #[] (s.setVm U.vm) := rfl
  show (Cond.arrayOver ty).before #[] U = true
  rw [e, h]
  exact hZ
theorem zIM {r o n d : String} {s U : State} (hW : s.WarmedH U.vm) (hZ : va_Nw (.interfaceMethod r o n d) s) : va_Nw (.interfaceMethod r o n d) U := by
  have h1 : (Cond.interfaceMethod r o n d).before #[] (s.setVm U.vm) = (Cond.interfaceMethod r o n d).before #[] s := by
    simp only [Cond.before, Cond.holds, Cond.value, State.vm_setVm, hW.alike.findClass, State.methodFound?_setVm hW.alike, State.methodNamed?_setVm hW.alike, arm_isInterface_setVm hW.alike]
  have e : (Cond.interfaceMethod r o n d).before #[] U = (Cond.interfaceMethod r o n d).before #[] (s.setVm U.vm) := rfl
  show (Cond.interfaceMethod r o n d).before #[] U = true
  rw [e, h1]
  exact hZ
theorem zIE {r : String} {i : Nat} {s U : State} (hW : s.WarmedH U.vm) (hZ : va_Nw (.interfaceEntry r i) s) : va_Nw (.interfaceEntry r i) U := by
  have h1 : (Cond.interfaceEntry r i).before #[] (s.setVm U.vm) = (Cond.interfaceEntry r i).before #[] s := by
    simp only [Cond.before, Cond.holds, Cond.value, State.memberEntry?_setVm hW.alike]
  have e : (Cond.interfaceEntry r i).before #[] U = (Cond.interfaceEntry r i).before #[] (s.setVm U.vm) := rfl
  show (Cond.interfaceEntry r i).before #[] U = true
  rw [e, h1]
  exact hZ
theorem zPM {x : MethodName} {s U : State} (hW : s.WarmedH U.vm) (hZ : va_Nw (.publicMethod x) s) : va_Nw (.publicMethod x) U := by
  have e : (Cond.publicMethod x).before #[] U = (Cond.publicMethod x).before #[] (s.setVm U.vm) := rfl
  show (Cond.publicMethod x).before #[] U = true
  rw [e, Cond.publicMethod_setVm hW.alike]
  exact hZ
theorem zUH {a b d : String} {s U : State} (hW : s.WarmedH U.vm) (hZ : va_Nw (.unhidden a b d) s) : va_Nw (.unhidden a b d) U := by
  have e : (Cond.unhidden a b d).before #[] U = (Cond.unhidden a b d).before #[] (s.setVm U.vm) := rfl
  show (Cond.unhidden a b d).before #[] U = true
  rw [e, Cond.unhidden_setVm hW.alike]
  exact hZ
theorem Kn.moved {w : Wd} {s U : State} (hW : s.WarmedH U.vm) (h : Kn w s) : Kn w U := by
  obtain ⟨h1, h2, h3, h4, h5, h6⟩ := h
  refine ⟨fun wd hw a => word_at hW (lw_self wd hw).2 (h1 wd hw #[]), fun wd hw hn => ?_, fun k hk => u_Kn_moved hW.alike (h3 k hk), fun c hc => (h4 c hc).moved hW.alike, fun q hq => (h5 q hq).moved hW.alike, h6.moved hW⟩
  have h0 := h2 wd hw hn
  cases wd <;> first | exact va_Nw.warmF hW h0 | exact va_Nw.warmM hW h0 | exact va_Nw.warmC hW h0 | exact va_Nw.warmD hW h0 | exact zAO hW h0 | exact zIM hW h0 | exact zIE hW h0 | exact zPM hW h0 | exact zUH hW h0 | exact absurd hn (by decide) | exact absurd hn (by simp [znest])
abbrev Mi : Type := MethodName × Nat × Option FieldType × List (Nat × Nat × Nat × Nat)
def Fx (w : Wd) (mi : Mi) (cc : ByteArray) (p : Program) (s : State) (m : MethodId) (meth : Method) (c : Code) : Prop :=
  p.tables.exec = Jvm.exec ∧ c.code = cc ∧ c.maxLocals = mi.2.1 ∧ meth.sig.returnType = mi.2.2.1 ∧ meth.locks = false ∧ s.vm.findClass mi.1.cls = some m.cls ∧ meth.name = mi.1.name ∧ Kn w s ∧
  c.exceptionTable.toList.map (fun h => (h.startPc, h.endPc, h.handlerPc, h.catchType)) = mi.2.2.2
/-- the locals by place; none: not known -/
def zP : Nat → List (Option Value) → List (Nat × Value)
  | _, [] => []
  | i, none :: t => zP (i + 1) t
  | i, some v :: t => (i, v) :: zP (i + 1) t
theorem zP_mem {i : Nat} {v : Value} : ∀ {ls : List (Option Value)} {b : Nat}, (i, v) ∈ zP b ls ↔ ∃ j, i = b + j ∧ ls[j]? = some (some v)
  | [], b => by simp [zP]
  | none :: t, b => by
    rw [zP, zP_mem]
    constructor
    · rintro ⟨j, h1, h2⟩
      exact ⟨j + 1, by omega, by simpa using h2⟩
    · rintro ⟨j, h1, h2⟩
      cases j with
      | zero => simp at h2
      | succ j => exact ⟨j, by omega, by simpa using h2⟩
  | some u :: t, b => by
    rw [zP, List.mem_cons, zP_mem]
    constructor
    · rintro (h | ⟨j, h1, h2⟩)
      · cases h
        exact ⟨0, by omega, by simp⟩
      · exact ⟨j + 1, by omega, by simpa using h2⟩
    · rintro ⟨j, h1, h2⟩
      cases j with
      | zero =>
        left
        simp at h2
        rw [h1, h2]; rfl
      | succ j => exact Or.inr ⟨j, by omega, by simpa using h2⟩
def zls (lsA : Array Slot) (n : Nat) (ls : List (Option Value)) : Prop := lv_has lsA n (zP 0 ls)
theorem zls.at {lsA : Array Slot} {n i : Nat} {ls : List (Option Value)} {v : Value} (h : zls lsA n ls) (hi : ls[i]? = some (some v)) : lsA[i]? = some (.val v) := h.2.2 (i, v) (zP_mem.mpr ⟨i, by omega, hi⟩)
theorem zls.sub {lsA : Array Slot} {n : Nat} {l : List (Nat × Value)} {ls : List (Option Value)} (h : lv_has lsA n l) (hs : ∀ i v, ls[i]? = some (some v) → (i, v) ∈ l) : zls lsA n ls := ⟨h.1, h.2.1, fun q hq => by
  obtain ⟨i, v⟩ := q
  obtain ⟨j, h1, h2⟩ := zP_mem.mp hq
  have e : i = j := by omega
  subst e
  exact h.2.2 (i, v) (hs i v h2)⟩
/-- how a run of a method ends -/
def EQ (w : Wd) (below : List Frame) (s : State) (R : Room) (Q : Outcome → Hp → Prop) : State → Prop := fun t =>
  ∃ o, t.status = .running ∧ Ended t below o ∧ (∃ h', RelH w h' t.heap ∧ Q o h') ∧ s.WarmedH t.vm ∧ ∃ L, (∀ q ∈ L, w.H.size ≤ q.base) ∧ s.sameButNew ({ t with vm := s.vm } : State) L R.cells R.slots
def V (w : Wd) (mi : Mi) (cc : ByteArray) (L cb sb : Nat) (h : Hp) (pc : Nat) (ls : List (Option Value)) (st : List Value) (Q : Outcome → Hp → Prop) : Prop :=
  ∀ (p : Program) (l : Launch) (e : Env) (R : Room) (s : State) (m : MethodId) (args : Array Value) (below : List Frame) (meth : Method) (c : Code) (H : Heap) (locs : List Loc) (cells slots : Nat) (lsA : Array Slot),
    Fx w mi cc p s m meth c → RelH w h H → (∀ q ∈ locs, w.H.size ≤ q.base) → L ≤ R.frames → 64 * L ≤ R.locals → cells + cb ≤ R.cells → slots + sb ≤ R.slots → zls lsA mi.2.1 ls →
    W p l e R s m args below meth c H locs cells slots (EQ w below s R Q) (F0 m pc lsA st)
/-- a method's contract -/
def Con (w : Wd) (mi : Mi) (cc : ByteArray) (L cb sb : Nat) (args : List Value) (h : Hp) (Q : Outcome → Hp → Prop) : Prop :=
  ∀ l : Launch, MetFree l mi.1 (headSpec ((if mi.2.2.2 = [] then Cond.code mi.1 cc mi.2.1 mi.2.2.1 else Cond.codeWith mi.1 cc mi.2.1 mi.2.2.1 mi.2.2.2) :: lw_all) { frames := L, cells := cb, slots := sb, locals := 64 * L }) (fun a U => a = args.toArray ∧ Kn w U ∧ RelH w h U.heap) (fun _ _ _ _ _ => True)
    (fun _ s o t => (∃ h', RelH w h' t.heap ∧ Q o h') ∧ s.WarmedH t.vm ∧ ∃ K, (∀ q ∈ K, w.H.size ≤ q.base) ∧ s.sameButNew ({ t with vm := s.vm } : State) K cb sb)
/-- the locals at a method's start -/
def zar : List Value → List (Option Value)
  | [] => []
  | v :: t => if v.category = 2 then some v :: none :: zar t else some v :: zar t
theorem zar_args : ∀ (vs : List Value) (b j : Nat) (v : Value), (zar vs)[j]? = some (some v) → (b + j, v) ∈ lv_args b vs
  | [], b, j, v, h => by simp [zar] at h
  | x :: t, b, j, v, h => by
    unfold lv_args
    unfold zar at h
    by_cases hx : x.category = 2
    · rw [if_pos hx] at h
      cases j with
      | zero =>
        simp at h
        subst h
        first | exact List.mem_cons_self | simp
      | succ j =>
        cases j with
        | zero => simp at h
        | succ j =>
          simp at h
          have := zar_args t (b + 2) j v h
          rw [show b + 2 + j = b + (j + 1 + 1) by omega] at this
          first | exact List.mem_cons_of_mem _ (by simpa [hx] using this) | simpa [hx] using Or.inr this
    · rw [if_neg hx] at h
      cases j with
      | zero =>
        simp at h
        subst h
        first | exact List.mem_cons_self | simp
      | succ j =>
        simp at h
        have := zar_args t (b + 1) j v h
        rw [show b + 1 + j = b + (j + 1) by omega] at this
        first | exact List.mem_cons_of_mem _ (by simpa [hx] using this) | simpa [hx] using Or.inr this
theorem Con.of {w : Wd} {mi : Mi} {cc : ByteArray} {L cb sb : Nat} {args : List Value} {h : Hp} {Q : Outcome → Hp → Prop} {ls : List (Option Value)} (hy : plainName mi.1.cls = true) (hn : Nat.ble (lg_sl args).length mi.2.1 = true) (hls : zar args ++ List.replicate (mi.2.1 - (zar args).length) none = ls)
    (k : V w mi cc L cb sb h 0 ls [] Q) : Con w mi cc L cb sb args h Q := by
  intro l
  refine MetFree.of_bodyS (code := cc) (maxLocals := mi.2.1) (ret := mi.2.2.1) hy ?_ ?_
  · intro a s m hp hnm
    have h0 := atoms_spec hp _ List.mem_cons_self
    by_cases hh : mi.2.2.2 = []
    · rw [if_pos hh] at h0
      obtain ⟨meth, c, h1, h2, h3, h4, h5, h6, -, -⟩ := Cond.code_spec hnm h0
      exact ⟨meth, c, h1, h2, h3, h4, h5, h6⟩
    · rw [if_neg hh] at h0
      obtain ⟨m9, meth, c, hn9, h1, h2, h3, h4, -, h5, h6, -⟩ := Cond.codeWith_spec h0
      cases hnm.symm.trans hn9
      exact ⟨meth, c, h1, h2, h3, h4, h5, h6⟩
  · intro p e s m a below meth c s₁ B hml hP _
    obtain ⟨rfl, hK, hH⟩ := hP
    have hh0 : s₁.heap = s.heap := by rw [B.state]; rfl
    have htb : c.exceptionTable.toList.map (fun h => (h.startPc, h.endPc, h.handlerPc, h.catchType)) = mi.2.2.2 := by
      have h0 := atoms_spec B.pre _ List.mem_cons_self
      by_cases hh : mi.2.2.2 = []
      · rw [if_pos hh] at h0
        have h1 := B.noHandlers h0
        rw [hh]
        have h2 : c.exceptionTable = #[] := by simpa using h1
        rw [h2]; rfl
      · rw [if_neg hh] at h0
        obtain ⟨m9, meth9, c9, hn9, h1, h2, -, -, h5, -⟩ := Cond.codeWith_spec h0
        cases B.named.symm.trans hn9
        cases B.method.symm.trans h1
        cases (Stand.of_body B).code.symm.trans h2
        exact h5
    have hl0 := lv_entry args (n := mi.2.1) (Nat.le_of_ble_eq_true hn)
    have F : Fx w mi cc p s m meth c := ⟨B.exec, B.bytes, hml, B.returns, B.notSynchronized, findClass_of_methodNamed B.named, (name_of_methodNamed B.named B.method).1, hK, htb⟩
    have hl : zls ((lg_sl args ++ List.replicate (mi.2.1 - (lg_sl args).length) Slot.unset).toArray) mi.2.1 ls := by
      refine zls.sub hl0 fun i v hi => ?_
      rw [← hls] at hi
      have h1 : (zar args)[i]? = some (some v) := by
        by_cases hlt : i < (zar args).length
        · rwa [List.getElem?_append_left hlt] at hi
        · rw [List.getElem?_append_right (by omega), List.getElem?_replicate] at hi
          split at hi <;> cases hi
      have := zar_args args 0 i v h1
      rwa [Nat.zero_add] at this
    have hw := k p l e (headSpec ((if mi.2.2.2 = [] then Cond.code mi.1 cc mi.2.1 mi.2.2.1 else Cond.codeWith mi.1 cc mi.2.1 mi.2.2.1 mi.2.2.2) :: lw_all) { frames := L, cells := cb, slots := sb, locals := 64 * L }).room s m args.toArray below meth c s.heap [] 0 0 _ F hH (fun q hq => by cases hq) (Nat.le_refl _) (Nat.le_refl _) (by show 0 + cb ≤ cb; omega) (by show 0 + sb ≤ sb; omega) hl
    rw [← lg_entry_eq] at hw
    obtain ⟨t, a1, o, b1, b2, b3, b4, b5⟩ := hw s₁ hh0 (Stand.of_body B)
    exact ⟨t, o, a1, b1, b2, b3, b4, b5⟩
/-- one step of the machine that moves neither heap nor locals -/
theorem V_pure {w : Wd} {mi : Mi} {cc : ByteArray} {L cb sb : Nat} {h : Hp} {pc pc' : Nat} {ls : List (Option Value)} {st st' : List Value} {Q : Outcome → Hp → Prop}
    (f : ∀ (p : Program) (l : Launch) (e : Env) (R : Room) (s : State) (m : MethodId) (args : Array Value) (below : List Frame) (meth : Method) (c : Code) (H : Heap) (locs : List Loc) (cells slots : Nat) (lsA : Array Slot) (Q' : State → Prop), p.tables.exec = Jvm.exec → c.code = cc → zls lsA mi.2.1 ls → Fx w mi cc p s m meth c → W p l e R s m args below meth c H locs cells slots Q' (F0 m pc' lsA st') → W p l e R s m args below meth c H locs cells slots Q' (F0 m pc lsA st))
    (k : V w mi cc L cb sb h pc' ls st' Q) : V w mi cc L cb sb h pc ls st Q := by
  intro p l e R s m args below meth c H locs cells slots lsA F a1 a2 a3 a4 a5 a6 hl
  exact f p l e R s m args below meth c H locs cells slots lsA _ F.1 F.2.1 hl F (k p l e R s m args below meth c H locs cells slots lsA F a1 a2 a3 a4 a5 a6 hl)
