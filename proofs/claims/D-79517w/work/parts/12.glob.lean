/-! the classes whose objects the abstract heap holds, by number -/
def gCl : List vw_C := [(RX4, TX4, 2), (RX5, TX5, 4), (RX6, TX6, 9), (RX2, TX2, 7), (RX1, TX1, 9), (RX3, TX3, 25), (RX7, TX7, 4), (RX8, TX8, 4), (RJ2, TJ2, 3), (RJ4, TJ4, 4), (RJ36, TJ36, 3), (RJ24, TJ24, 4), (RJ35, TJ35, 5), (RJ37, TJ37, 3), (RJ38, TJ38, 3), (RJ6, TJ6, 4), (RJ7, TJ7, 4), (RJ16, TJ16, 2), ("SkerryLights$Side$1", TX4, 0), ("SkerryLights$Side$2", TX4, 0), ("SkerryLights$Side$3", TX4, 0)]
abbrev fHasNext : MethodName := ⟨"java/util/Iterator", "hasNext", "()Z"⟩
abbrev fNext : MethodName := ⟨"java/util/Iterator", "next", "()Ljava/lang/Object;"⟩
abbrev fRemove : MethodName := ⟨"java/util/Iterator", "remove", "()V"⟩
abbrev fGet : MethodName := ⟨"java/util/List", "get", "(I)Ljava/lang/Object;"⟩
abbrev fIndexOf : MethodName := ⟨"java/util/List", "indexOf", "(Ljava/lang/Object;)I"⟩
abbrev fLength : MethodName := ⟨"java/lang/CharSequence", "length", "()I"⟩
abbrev fCharAt : MethodName := ⟨"java/lang/CharSequence", "charAt", "(I)C"⟩
/-- calls through interfaces: class, the interface's method, the class's -/
def gFw : List (String × MethodName × MethodName) := [
  ("java/util/ArrayList$Itr", fHasNext, ⟨"java/util/ArrayList$Itr", "hasNext", "()Z"⟩),
  ("java/util/ArrayList$Itr", fNext, ⟨"java/util/ArrayList$Itr", "next", "()Ljava/lang/Object;"⟩),
  ("java/util/LinkedList$ListItr", fHasNext, ⟨"java/util/LinkedList$ListItr", "hasNext", "()Z"⟩),
  ("java/util/LinkedList$ListItr", fNext, ⟨"java/util/LinkedList$ListItr", "next", "()Ljava/lang/Object;"⟩),
  ("java/util/LinkedList$ListItr", fRemove, ⟨"java/util/LinkedList$ListItr", "remove", "()V"⟩),
  ("java/util/ImmutableCollections$ListN", fGet, ⟨"java/util/ImmutableCollections$ListN", "get", "(I)Ljava/lang/Object;"⟩),
  ("java/util/ImmutableCollections$ListN", fIndexOf, ⟨"java/util/ImmutableCollections$ListN", "indexOf", "(Ljava/lang/Object;)I"⟩),
  ("java/lang/String", fLength, ⟨"java/lang/String", "length", "()I"⟩),
  ("java/lang/StringBuilder", fLength, ⟨"java/lang/StringBuilder", "length", "()I"⟩),
  ("java/lang/String", fCharAt, ⟨"java/lang/String", "charAt", "(I)C"⟩),
  ("java/lang/StringBuilder", fCharAt, ⟨"java/lang/StringBuilder", "charAt", "(I)C"⟩)]
theorem gFw_ok : ∀ t ∈ gFw, t.2.1.cls ≠ "java/lang/invoke/MethodHandle" ∧ t.2.1.cls ≠ "java/lang/invoke/VarHandle" := by decide +kernel
def gAO : List String := ["java/lang/Object", "SkerryLights$Refusal"]
/-- exceptions thrown by the component, and the classes that a handler may ask of them -/
def gEx : List String := ["java/lang/IndexOutOfBoundsException", "java/lang/IllegalArgumentException", "java/lang/IllegalStateException", "java/lang/UnsupportedOperationException", "java/util/NoSuchElementException", "java/lang/ArithmeticException"]
/-- pairs that no handler takes -/
def gNc : List (String × String) := (gEx.flatMap (fun a => gEx.map (fun b => (a, b)))).filter (fun q => !(q.1 == q.2)) ++ [("java/lang/StringBuilder", "java/lang/String")]
/-- private methods of a class above the receiver's, that run -/
def gPv : List MethodName := [⟨"java/lang/AbstractStringBuilder", "ensureCapacityInternal", "(I)V"⟩, ⟨"java/lang/AbstractStringBuilder", "newCapacity", "(I)I"⟩, ⟨"java/lang/AbstractStringBuilder", "inflateIfNeededFor", "(Ljava/lang/AbstractStringBuilder;)V"⟩, ⟨"java/lang/AbstractStringBuilder", "inflateIfNeededFor", "(Ljava/lang/String;)V"⟩, ⟨"java/lang/AbstractStringBuilder", "putStringAt", "(ILjava/lang/String;)V"⟩]
