/-! the class under test: words of nest mates, contracts over any world -/
set_option maxRecDepth 100000
def nestF : List (String × Nat × String × String × String × String) := [("SharedWindow$Surveyor", 53, "SharedWindow$Plan", "facing", "[I", "SharedWindow"), ("SharedWindow", 180, "SharedWindow$Plan", "facing", "[I", "SharedWindow"), ("SharedWindow$Surveyor", 64, "SharedWindow$Plan", "side", "[I", "SharedWindow"), ("SharedWindow$Surveyor", 67, "SharedWindow$Plan", "from", "[I", "SharedWindow"), ("SharedWindow$Surveyor", 70, "SharedWindow$Plan", "till", "[I", "SharedWindow"), ("SharedWindow$Surveyor", 49, "SharedWindow$Plan", "houses", "I", "SharedWindow"), ("SharedWindow", 212, "SharedWindow$Plan", "houses", "I", "SharedWindow"), ("SharedWindow$Surveyor", 61, "SharedWindow$Plan", "things", "I", "SharedWindow"), ("SharedWindow", 283, "SharedWindow$Plan", "things", "I", "SharedWindow"), ("SharedWindow$Compared", 20, "SharedWindow$Asked", "isRefused", "Z", "SharedWindow"), ("SharedWindow$Row", 17, "SharedWindow$Asked", "isRefused", "Z", "SharedWindow"), ("SharedWindow$Sum", 7, "SharedWindow$Asked", "isRefused", "Z", "SharedWindow"), ("SharedWindow", 174, "SharedWindow$Street", "joy", "[I", "SharedWindow"), ("SharedWindow", 161, "SharedWindow$Street", "window", "I", "SharedWindow"), ("SharedWindow", 168, "SharedWindow$Street", "brings", "I", "SharedWindow"), ("SharedWindow", 286, "SharedWindow$Street", "cracks", "I", "SharedWindow"), ("SharedWindow", 276, "SharedWindow$Street", "day", "I", "SharedWindow"), ("SharedWindow", 92, "SharedWindow$Street", "x", "I", "SharedWindow"), ("SharedWindow", 155, "SharedWindow$Street", "cracksNow", "I", "SharedWindow"), ("SharedWindow$Reader", 134, "SharedWindow$Text", "letters", "[I", "SharedWindow"), ("SharedWindow$Reader", 138, "SharedWindow$Text", "sums", "[LSharedWindow$Sum;", "SharedWindow"), ("SharedWindow$Reader", 142, "SharedWindow$Text", "conditions", "[LSharedWindow$Condition;", "SharedWindow"), ("SharedWindow$Reader", 131, "SharedWindow$Text", "many", "I", "SharedWindow"), ("SharedWindow", 289, "SharedWindow$Text", "many", "I", "SharedWindow"), ("SharedWindow$Street", 39, "SharedWindow", "plan", "LSharedWindow$Plan;", "SharedWindow"), ("SharedWindow$Clerk", 67, "SharedWindow", "plan", "LSharedWindow$Plan;", "SharedWindow"), ("SharedWindow$Street", 106, "SharedWindow", "whose", "[I", "SharedWindow"), ("SharedWindow$Street", 50, "SharedWindow", "moment", "LSharedWindow$Moment;", "SharedWindow"), ("SharedWindow$Reader", 29, "SharedWindow", "tape", "[B", "SharedWindow"), ("SharedWindow$Scribe", 20, "SharedWindow", "tape", "[B", "SharedWindow"), ("SharedWindow$Street", 77, "SharedWindow", "law", "LSharedWindow$Text;", "SharedWindow"), ("SharedWindow", 127, "SharedWindow$Reader", "text", "LSharedWindow$Text;", "SharedWindow"), ("SharedWindow$Reader", 94, "SharedWindow$Row", "next", "LSharedWindow$Row;", "SharedWindow"), ("SharedWindow$Reader", 123, "SharedWindow$Some", "next", "LSharedWindow$Some;", "SharedWindow"), ("SharedWindow", 134, "SharedWindow$Surveyor", "trial", "LSharedWindow$Plan;", "SharedWindow"), ("SharedWindow", 148, "SharedWindow$Clerk", "row", "[I", "SharedWindow")]
def nestM : List (String × Nat × MethodName × String) := [("SharedWindow", 20, ⟨"SharedWindow$Plan", "<init>", "()V"⟩, "SharedWindow"), ("SharedWindow", 31, ⟨"SharedWindow$Moment", "<init>", "()V"⟩, "SharedWindow"), ("SharedWindow$Moment", 3, ⟨"SharedWindow$Asked", "<init>", "()V"⟩, "SharedWindow"), ("SharedWindow", 38, ⟨"SharedWindow$Street", "<init>", "(LSharedWindow;)V"⟩, "SharedWindow"), ("SharedWindow", 57, ⟨"SharedWindow$Text", "<init>", "()V"⟩, "SharedWindow"), ("SharedWindow$Reader", 17, ⟨"SharedWindow$Text", "<init>", "()V"⟩, "SharedWindow"), ("SharedWindow$Number", 1, ⟨"SharedWindow$Sum", "<init>", "()V"⟩, "SharedWindow"), ("SharedWindow$Letter", 1, ⟨"SharedWindow$Sum", "<init>", "()V"⟩, "SharedWindow"), ("SharedWindow$Row", 1, ⟨"SharedWindow$Sum", "<init>", "()V"⟩, "SharedWindow"), ("SharedWindow$Not", 1, ⟨"SharedWindow$Condition", "<init>", "()V"⟩, "SharedWindow"), ("SharedWindow$Compared", 1, ⟨"SharedWindow$Condition", "<init>", "()V"⟩, "SharedWindow"), ("SharedWindow$Some", 1, ⟨"SharedWindow$Condition", "<init>", "()V"⟩, "SharedWindow"), ("SharedWindow$Surveyor", 17, ⟨"SharedWindow$Plan", "<init>", "()V"⟩, "SharedWindow"), ("SharedWindow$Street", 91, ⟨"SharedWindow", "held", "(II)I"⟩, "SharedWindow")]
def nestC : List (String × String) := [("SharedWindow$Number", "SharedWindow$Sum"), ("SharedWindow$Letter", "SharedWindow$Sum"), ("SharedWindow$Some", "SharedWindow$Condition"), ("SharedWindow$Not", "SharedWindow$Condition"), ("SharedWindow$Compared", "SharedWindow$Condition"), ("SharedWindow$Row", "SharedWindow$Sum")]
def nestD : List MethodName := [⟨"SharedWindow$Condition", "holds", "(LSharedWindow$Asked;)I"⟩, ⟨"SharedWindow$Scribe", "isIn", "(II)Z"⟩, ⟨"SharedWindow$Scribe", "here", "()I"⟩, ⟨"SharedWindow$Scribe", "place", "()I"⟩, ⟨"SharedWindow$Scribe", "bad", "(II)V"⟩, ⟨"SharedWindow$Scribe", "goesOn", "()V"⟩, ⟨"SharedWindow$Scribe", "isGood", "()Z"⟩, ⟨"SharedWindow$Scribe", "must", "(I)V"⟩, ⟨"SharedWindow$Scribe", "isEnd", "()Z"⟩, ⟨"SharedWindow$Scribe", "answer", "(I)I"⟩, ⟨"SharedWindow$Asked", "value", "(I)I"⟩, ⟨"SharedWindow$Sum", "worth", "(LSharedWindow$Asked;)I"⟩]
theorem nq151 : ("SharedWindow$Surveyor", 53, "SharedWindow$Plan", "facing", "[I", "SharedWindow") ∈ nestF := List.mem_of_getElem? (i := 0) rfl
theorem nq152 : ("SharedWindow", 180, "SharedWindow$Plan", "facing", "[I", "SharedWindow") ∈ nestF := List.mem_of_getElem? (i := 1) rfl
theorem nq154 : ("SharedWindow$Surveyor", 64, "SharedWindow$Plan", "side", "[I", "SharedWindow") ∈ nestF := List.mem_of_getElem? (i := 2) rfl
theorem nq156 : ("SharedWindow$Surveyor", 67, "SharedWindow$Plan", "from", "[I", "SharedWindow") ∈ nestF := List.mem_of_getElem? (i := 3) rfl
theorem nq158 : ("SharedWindow$Surveyor", 70, "SharedWindow$Plan", "till", "[I", "SharedWindow") ∈ nestF := List.mem_of_getElem? (i := 4) rfl
theorem nq160 : ("SharedWindow$Surveyor", 49, "SharedWindow$Plan", "houses", "I", "SharedWindow") ∈ nestF := List.mem_of_getElem? (i := 5) rfl
theorem nq161 : ("SharedWindow", 212, "SharedWindow$Plan", "houses", "I", "SharedWindow") ∈ nestF := List.mem_of_getElem? (i := 6) rfl
theorem nq163 : ("SharedWindow$Surveyor", 61, "SharedWindow$Plan", "things", "I", "SharedWindow") ∈ nestF := List.mem_of_getElem? (i := 7) rfl
theorem nq164 : ("SharedWindow", 283, "SharedWindow$Plan", "things", "I", "SharedWindow") ∈ nestF := List.mem_of_getElem? (i := 8) rfl
theorem nq197 : ("SharedWindow$Compared", 20, "SharedWindow$Asked", "isRefused", "Z", "SharedWindow") ∈ nestF := List.mem_of_getElem? (i := 9) rfl
theorem nq198 : ("SharedWindow$Row", 17, "SharedWindow$Asked", "isRefused", "Z", "SharedWindow") ∈ nestF := List.mem_of_getElem? (i := 10) rfl
theorem nq199 : ("SharedWindow$Sum", 7, "SharedWindow$Asked", "isRefused", "Z", "SharedWindow") ∈ nestF := List.mem_of_getElem? (i := 11) rfl
theorem nq228 : ("SharedWindow", 174, "SharedWindow$Street", "joy", "[I", "SharedWindow") ∈ nestF := List.mem_of_getElem? (i := 12) rfl
theorem nq230 : ("SharedWindow", 161, "SharedWindow$Street", "window", "I", "SharedWindow") ∈ nestF := List.mem_of_getElem? (i := 13) rfl
theorem nq232 : ("SharedWindow", 168, "SharedWindow$Street", "brings", "I", "SharedWindow") ∈ nestF := List.mem_of_getElem? (i := 14) rfl
theorem nq234 : ("SharedWindow", 286, "SharedWindow$Street", "cracks", "I", "SharedWindow") ∈ nestF := List.mem_of_getElem? (i := 15) rfl
theorem nq236 : ("SharedWindow", 276, "SharedWindow$Street", "day", "I", "SharedWindow") ∈ nestF := List.mem_of_getElem? (i := 16) rfl
theorem nq238 : ("SharedWindow", 92, "SharedWindow$Street", "x", "I", "SharedWindow") ∈ nestF := List.mem_of_getElem? (i := 17) rfl
theorem nq240 : ("SharedWindow", 155, "SharedWindow$Street", "cracksNow", "I", "SharedWindow") ∈ nestF := List.mem_of_getElem? (i := 18) rfl
theorem nq270 : ("SharedWindow$Reader", 134, "SharedWindow$Text", "letters", "[I", "SharedWindow") ∈ nestF := List.mem_of_getElem? (i := 19) rfl
theorem nq272 : ("SharedWindow$Reader", 138, "SharedWindow$Text", "sums", "[LSharedWindow$Sum;", "SharedWindow") ∈ nestF := List.mem_of_getElem? (i := 20) rfl
theorem nq274 : ("SharedWindow$Reader", 142, "SharedWindow$Text", "conditions", "[LSharedWindow$Condition;", "SharedWindow") ∈ nestF := List.mem_of_getElem? (i := 21) rfl
theorem nq276 : ("SharedWindow$Reader", 131, "SharedWindow$Text", "many", "I", "SharedWindow") ∈ nestF := List.mem_of_getElem? (i := 22) rfl
theorem nq277 : ("SharedWindow", 289, "SharedWindow$Text", "many", "I", "SharedWindow") ∈ nestF := List.mem_of_getElem? (i := 23) rfl
theorem nq290 : ("SharedWindow$Street", 39, "SharedWindow", "plan", "LSharedWindow$Plan;", "SharedWindow") ∈ nestF := List.mem_of_getElem? (i := 24) rfl
theorem nq292 : ("SharedWindow$Clerk", 67, "SharedWindow", "plan", "LSharedWindow$Plan;", "SharedWindow") ∈ nestF := List.mem_of_getElem? (i := 25) rfl
theorem nq294 : ("SharedWindow$Street", 106, "SharedWindow", "whose", "[I", "SharedWindow") ∈ nestF := List.mem_of_getElem? (i := 26) rfl
theorem nq295 : ("SharedWindow$Street", 50, "SharedWindow", "moment", "LSharedWindow$Moment;", "SharedWindow") ∈ nestF := List.mem_of_getElem? (i := 27) rfl
theorem nq300 : ("SharedWindow$Reader", 29, "SharedWindow", "tape", "[B", "SharedWindow") ∈ nestF := List.mem_of_getElem? (i := 28) rfl
theorem nq301 : ("SharedWindow$Scribe", 20, "SharedWindow", "tape", "[B", "SharedWindow") ∈ nestF := List.mem_of_getElem? (i := 29) rfl
theorem nq304 : ("SharedWindow$Street", 77, "SharedWindow", "law", "LSharedWindow$Text;", "SharedWindow") ∈ nestF := List.mem_of_getElem? (i := 30) rfl
theorem nq398 : ("SharedWindow", 127, "SharedWindow$Reader", "text", "LSharedWindow$Text;", "SharedWindow") ∈ nestF := List.mem_of_getElem? (i := 31) rfl
theorem nq587 : ("SharedWindow$Reader", 94, "SharedWindow$Row", "next", "LSharedWindow$Row;", "SharedWindow") ∈ nestF := List.mem_of_getElem? (i := 32) rfl
theorem nq645 : ("SharedWindow$Reader", 123, "SharedWindow$Some", "next", "LSharedWindow$Some;", "SharedWindow") ∈ nestF := List.mem_of_getElem? (i := 33) rfl
theorem nq669 : ("SharedWindow", 134, "SharedWindow$Surveyor", "trial", "LSharedWindow$Plan;", "SharedWindow") ∈ nestF := List.mem_of_getElem? (i := 34) rfl
theorem nq798 : ("SharedWindow", 148, "SharedWindow$Clerk", "row", "[I", "SharedWindow") ∈ nestF := List.mem_of_getElem? (i := 35) rfl
theorem nq146 : ("SharedWindow", 20, (yX1_init : MethodName), "SharedWindow") ∈ nestM := List.mem_of_getElem? (i := 0) rfl
theorem nq181 : ("SharedWindow", 31, (yX3_init : MethodName), "SharedWindow") ∈ nestM := List.mem_of_getElem? (i := 1) rfl
theorem nq184 : ("SharedWindow$Moment", 3, (yX2_init : MethodName), "SharedWindow") ∈ nestM := List.mem_of_getElem? (i := 2) rfl
theorem nq223 : ("SharedWindow", 38, (yX4_init : MethodName), "SharedWindow") ∈ nestM := List.mem_of_getElem? (i := 3) rfl
theorem nq261 : ("SharedWindow", 57, (yX5_init : MethodName), "SharedWindow") ∈ nestM := List.mem_of_getElem? (i := 4) rfl
theorem nq395 : ("SharedWindow$Reader", 17, (yX5_init : MethodName), "SharedWindow") ∈ nestM := List.mem_of_getElem? (i := 5) rfl
theorem nq561 : ("SharedWindow$Number", 1, (yX8_init : MethodName), "SharedWindow") ∈ nestM := List.mem_of_getElem? (i := 6) rfl
theorem nq575 : ("SharedWindow$Letter", 1, (yX8_init : MethodName), "SharedWindow") ∈ nestM := List.mem_of_getElem? (i := 7) rfl
theorem nq583 : ("SharedWindow$Row", 1, (yX8_init : MethodName), "SharedWindow") ∈ nestM := List.mem_of_getElem? (i := 8) rfl
theorem nq614 : ("SharedWindow$Not", 1, (yX12_init : MethodName), "SharedWindow") ∈ nestM := List.mem_of_getElem? (i := 9) rfl
theorem nq627 : ("SharedWindow$Compared", 1, (yX12_init : MethodName), "SharedWindow") ∈ nestM := List.mem_of_getElem? (i := 10) rfl
theorem nq641 : ("SharedWindow$Some", 1, (yX12_init : MethodName), "SharedWindow") ∈ nestM := List.mem_of_getElem? (i := 11) rfl
theorem nq667 : ("SharedWindow$Surveyor", 17, (yX1_init : MethodName), "SharedWindow") ∈ nestM := List.mem_of_getElem? (i := 12) rfl
theorem nq974 : ("SharedWindow$Street", 91, (yX0_held : MethodName), "SharedWindow") ∈ nestM := List.mem_of_getElem? (i := 13) rfl
theorem nq1833 : ("SharedWindow$Number", "SharedWindow$Sum") ∈ nestC := List.mem_of_getElem? (i := 0) rfl
theorem nq1834 : ("SharedWindow$Letter", "SharedWindow$Sum") ∈ nestC := List.mem_of_getElem? (i := 1) rfl
theorem nq1835 : ("SharedWindow$Some", "SharedWindow$Condition") ∈ nestC := List.mem_of_getElem? (i := 2) rfl
theorem nq1836 : ("SharedWindow$Not", "SharedWindow$Condition") ∈ nestC := List.mem_of_getElem? (i := 3) rfl
theorem nq1837 : ("SharedWindow$Compared", "SharedWindow$Condition") ∈ nestC := List.mem_of_getElem? (i := 4) rfl
theorem nq1832 : ("SharedWindow$Row", "SharedWindow$Sum") ∈ nestC := List.mem_of_getElem? (i := 5) rfl
theorem nq927 : (⟨"SharedWindow$Condition", "holds", "(LSharedWindow$Asked;)I"⟩ : MethodName) ∈ nestD := List.mem_of_getElem? (i := 0) rfl
theorem nq704 : (⟨"SharedWindow$Scribe", "isIn", "(II)Z"⟩ : MethodName) ∈ nestD := List.mem_of_getElem? (i := 1) rfl
theorem nq716 : (⟨"SharedWindow$Scribe", "here", "()I"⟩ : MethodName) ∈ nestD := List.mem_of_getElem? (i := 2) rfl
theorem nq720 : (⟨"SharedWindow$Scribe", "place", "()I"⟩ : MethodName) ∈ nestD := List.mem_of_getElem? (i := 3) rfl
theorem nq726 : (⟨"SharedWindow$Scribe", "bad", "(II)V"⟩ : MethodName) ∈ nestD := List.mem_of_getElem? (i := 4) rfl
theorem nq737 : (⟨"SharedWindow$Scribe", "goesOn", "()V"⟩ : MethodName) ∈ nestD := List.mem_of_getElem? (i := 5) rfl
theorem nq743 : (⟨"SharedWindow$Scribe", "isGood", "()Z"⟩ : MethodName) ∈ nestD := List.mem_of_getElem? (i := 6) rfl
theorem nq761 : (⟨"SharedWindow$Scribe", "must", "(I)V"⟩ : MethodName) ∈ nestD := List.mem_of_getElem? (i := 7) rfl
theorem nq769 : (⟨"SharedWindow$Scribe", "isEnd", "()Z"⟩ : MethodName) ∈ nestD := List.mem_of_getElem? (i := 8) rfl
theorem nq775 : (⟨"SharedWindow$Scribe", "answer", "(I)I"⟩ : MethodName) ∈ nestD := List.mem_of_getElem? (i := 9) rfl
theorem nq939 : (⟨"SharedWindow$Asked", "value", "(I)I"⟩ : MethodName) ∈ nestD := List.mem_of_getElem? (i := 10) rfl
theorem nq933 : (⟨"SharedWindow$Sum", "worth", "(LSharedWindow$Asked;)I"⟩ : MethodName) ∈ nestD := List.mem_of_getElem? (i := 11) rfl
def KN (U : State) : Prop := (∀ q ∈ nestF, va_Nw (.fieldLinkNest q.1 q.2.1 q.2.2.1 q.2.2.2.1 q.2.2.2.2.1 q.2.2.2.2.2) U) ∧ (∀ q ∈ nestM, va_Nw (.methodLinkNest q.1 q.2.1 q.2.2.1 q.2.2.2) U) ∧ (∀ q ∈ nestC, va_Nw (.castable q.1 q.2) U) ∧ (∀ q ∈ nestD, va_Nw (.declares q) U) ∧ va_AO "SharedWindow$Sum" U ∧ va_AO "SharedWindow$Condition" U
theorem KN.warm {s U : State} (hW : s.WarmedH U.vm) (h : KN s) : KN U := ⟨fun q hq => va_Nw.warmF hW (h.1 q hq), fun q hq => va_Nw.warmM hW (h.2.1 q hq), fun q hq => va_Nw.warmC hW (h.2.2.1 q hq), fun q hq => va_Nw.warmD hW (h.2.2.2.1 q hq), va_AO.moved hW.alike h.2.2.2.2.1, va_AO.moved hW.alike h.2.2.2.2.2⟩
theorem KN.same {s U : State} (hvm : s.vm = U.vm) (h : KN s) : KN U := ⟨fun q hq => va_Nw.same rfl hvm (h.1 q hq), fun q hq => va_Nw.same rfl hvm (h.2.1 q hq), fun q hq => va_Nw.same rfl hvm (h.2.2.1 q hq), fun q hq => va_Nw.same rfl hvm (h.2.2.2.1 q hq), va_AO.moved (by rw [hvm]; exact Vm.Alike.refl _) h.2.2.2.2.1, va_AO.moved (by rw [hvm]; exact Vm.Alike.refl _) h.2.2.2.2.2⟩
def KS (G : GG) (U : State) : Prop := KK G U ∧ KN U
theorem KS.warm {G : GG} {s U : State} (hW : s.WarmedH U.vm) (h : KS G s) : KS G U := ⟨KK.moved hW.alike h.1, KN.warm hW h.2⟩
/-- a contract's start: the words, and what the heap is -/
def XP (G : GG) (av : List Value) (X : Heap → Prop) : Array Value → State → Prop := va_Pc av (fun U => KS G U ∧ X U.heap)
theorem XP.blind {G : GG} (av : List Value) {X : Heap → Prop} : FrameBlind (XP G av X) := fun a U g mk q => ⟨q.1, ⟨KK.moved (u := U) (U := U.calling g mk a) (Vm.Alike.refl U.vm) q.2.1.1, KN.same (s := U) (U := U.calling g mk a) rfl q.2.1.2⟩, q.2.2⟩
theorem XP.give {G : GG} {av : List Value} {X : Heap → Prop} {s : State} {H : Heap} (hK : KS G s) (hX : X H) : ∀ U : State, U.heap = H → s.WarmedH U.vm → XP G av X av.toArray U := fun U hU hW => ⟨rfl, KS.warm hW hK, by rw [hU]; exact hX⟩
/-- answers an int, no cell changes -/
def CIs (G : GG) (l : Launch) (y : MethodName) (cc : ByteArray) (nL : Nat) (ret : FieldType) (fr lo : Nat) (av : List Value) (X : Heap → Prop) (val : Int32) : Prop :=
  Met l y (ws_ y cc nL (some ret)) (rm_ fr lo 0 0) (XP G av X) (vp_Si (fun r => r = val)) 0 0 (fun _ => False)
/-- answers an int, cells of A change -/
def CXi (G : GG) (l : Launch) {S : Type} (P : S → Heap → Prop) (A : Nat → Prop) (y : MethodName) (cc : ByteArray) (nL : Nat) (ret : FieldType) (fr lo mc ms : Nat) (av : List Value) (X : Heap → Prop) (post : Int32 → S → Prop) : Prop :=
  Met l y (ws_ y cc nL (some ret)) (rm_ fr lo mc ms) (XP G av X) (va_Qi post (fun w t => P w t.heap) A) mc ms A
def CXv (G : GG) (l : Launch) {S : Type} (P : S → Heap → Prop) (A : Nat → Prop) (y : MethodName) (cc : ByteArray) (nL : Nat) (fr lo mc ms : Nat) (av : List Value) (X : Heap → Prop) (post : S → Prop) : Prop :=
  Met l y (ws_ y cc nL none) (rm_ fr lo mc ms) (XP G av X) (va_Qv post (fun w t => P w t.heap) A) mc ms A
def CXl (G : GG) (l : Launch) {S : Type} (P : S → Heap → Prop) (A : Nat → Prop) (y : MethodName) (cc : ByteArray) (nL : Nat) (fr lo mc ms : Nat) (av : List Value) (X : Heap → Prop) (post : Int64 → S → Prop) : Prop :=
  Met l y (ws_ y cc nL (some .long)) (rm_ fr lo mc ms) (XP G av X) (va_Ql post (fun w t => P w t.heap) A) mc ms A
/-- answers a reference or null -/
def CXq (G : GG) (l : Launch) {S : Type} (P : S → Heap → Prop) (A : Nat → Prop) (y : MethodName) (cc : ByteArray) (nL : Nat) (ret : FieldType) (fr lo mc ms : Nat) (av : List Value) (X : Heap → Prop) (post : Option Nat → S → Prop) : Prop :=
  Met l y (ws_ y cc nL (some ret)) (rm_ fr lo mc ms) (XP G av X) (va_Qq post (fun w t => P w t.heap) A) mc ms A
section SCALL
variable {G : GG} {p : Program} {l : Launch} {e : Env} {Rm : Room} {s : State} {m : MethodId} {args : Array Value} {below : List Frame} {meth : Method} {c : Code} {H : Heap} {locs : List Loc} {cells slots : Nat} {Q : State → Prop}
variable {cc bytes : ByteArray} {nL maxL index fr lo mc ms pc : Nat} {ret : FieldType} {reto : Option FieldType} {own C : String} {y : MethodName} {ls : Array Slot} {As rest st : List Value} {X : Heap → Prop} {val : Int32} {b : Addr} {lv : List (Nat × Value)} {Qc : Array Value → State → Outcome → State → Prop} {free : Addr → Prop} {H0 : Heap} {A A0 : Nat → Prop}
abbrev rmS (fr lo mc ms maxL cells slots : Nat) (Rm : Room) : Prop := (fr + 1 ≤ Rm.frames ∧ 19 + maxL + lo ≤ Rm.locals) ∧ cells + mc ≤ Rm.cells ∧ slots + ms ≤ Rm.slots
theorem rcS (hC : CallFix p m c cc nL s args lw_all own) (hl : lv_has ls nL lv) (hM : Met l y (ws_ y bytes maxL reto) (rm_ fr lo mc ms) (XP G As X) Qc mc ms free) (hK : KS G s) (hX : X H) (h1 : Cond.methodLink own index y ∈ lw_all) (h2 : Cond.static y ∈ lw_all) (h3 : Cond.initialized y.cls ∈ lw_all) (h4 : Cond.code y bytes maxL reto ∈ lw_all) (hd : MD y As.length) (hR : rmS fr lo mc ms maxL cells slots Rm) (hst : st = As.reverse ++ rest) (hcat : Nat.ble (rest.map fun v => v.category).sum 8 = true) (hdg : decode cc pc = .ok (.invokestatic index, 3)) : va_Run p l e Rm s m args below meth c H locs cells slots mc ms (F0 m pc ls st) rest (Qc As.toArray) free :=
  va_runS (As := As) (rest := rest) hC hM (va_cwS As.length hC.2.2.2.2 (lw_S h1 h2 h3 h4) rfl rfl rfl hd ⟨hR.1.1, by have := hR.1.2; show 8 + (maxL + 11) + lo ≤ _; omega⟩) ⟨XP.blind As, XP.give hK hX⟩ rfl rfl hl.1 hst (lv_room (Nat.le_of_ble_eq_true hcat)) hdg hR.2
theorem rcSN {host : String} (hC : CallFix p m c cc nL s args lw_all own) (hl : lv_has ls nL lv) (hM : Met l y (ws_ y bytes maxL reto) (rm_ fr lo mc ms) (XP G As X) Qc mc ms free) (hK : KS G s) (hX : X H) (h1 : (own, index, y, host) ∈ nestM) (h2 : Cond.static y ∈ lw_all) (h3 : Cond.initialized y.cls ∈ lw_all) (h4 : Cond.code y bytes maxL reto ∈ lw_all) (hd : MD y As.length) (hR : rmS fr lo mc ms maxL cells slots Rm) (hst : st = As.reverse ++ rest) (hcat : Nat.ble (rest.map fun v => v.category).sum 8 = true) (hdg : decode cc pc = .ok (.invokestatic index, 3)) : va_Run p l e Rm s m args below meth c H locs cells slots mc ms (F0 m pc ls st) rest (Qc As.toArray) free :=
  va_runSN (As := As) (rest := rest) hC hM ⟨va_cnB As.length hC.2.2.2.2 (lw_meth h4) rfl rfl rfl (hK.2.2.1 _ h1) (hC.2.2.2.2 _ h3) hd ⟨hR.1.1, by have := hR.1.2; show 8 + (maxL + 11) + lo ≤ _; omega⟩, hC.2.2.2.2 _ h2, trivial⟩ ⟨XP.blind As, XP.give hK hX⟩ rfl rfl hl.1 hst (lv_room (Nat.le_of_ble_eq_true hcat)) hdg hR.2
theorem rcV (hC : CallFix p m c cc nL s args lw_all own) (hl : lv_has ls nL lv) (hM : Met l y (ws_ y bytes maxL reto) (rm_ fr lo mc ms) (XP G (.ref b :: As) X) Qc mc ms free) (hK : KS G s) (hX : X H) (hrecv : Recv s H y.cls b) (h1 : Cond.methodLink own index y ∈ lw_all) (h2 : Cond.instanceMethod y ∈ lw_all) (h3 : Cond.selects y.cls y y ∈ lw_all) (h4 : Cond.initialized y.cls ∈ lw_all) (h5 : Cond.code y bytes maxL reto ∈ lw_all) (hd : MD y As.length) (hR : rmS fr lo mc ms maxL cells slots Rm) (hst : st = As.reverse ++ .ref b :: rest) (hcat : Nat.ble (rest.map fun v => v.category).sum 8 = true) (hdg : decode cc pc = .ok (.invokevirtual index, 3)) : va_Run p l e Rm s m args below meth c H locs cells slots mc ms (F0 m pc ls st) rest (Qc (Value.ref b :: As).toArray) free :=
  va_runV (As := As) (rest := rest) hC hM (cwV As.length hC.2.2.2.2 (lw_V h1 h2 h3 h4 h5) rfl rfl rfl ⟨rfl, hd⟩ ⟨hR.1.1, by have := hR.1.2; show 8 + (maxL + 11) + lo ≤ _; omega⟩) ⟨XP.blind _, hrecv, XP.give hK hX⟩ rfl rfl hl.1 hst (lv_room (Nat.le_of_ble_eq_true hcat)) hdg hR.2
theorem inU {idx : Nat} {owner : String} {x : MethodName} (h1 : Cond.methodLink own idx x ∈ lw_all) (hs : Cond.sameMethod x.cls owner x.name x.desc ∈ lw_all) (h3 : Cond.selects C x y ∈ lw_all) (h2 : Cond.instanceMethod y ∈ lw_all) (h4 : Cond.initialized y.cls ∈ lw_all) (h5 : Cond.code y bytes maxL reto ∈ lw_all) : GoodIn lw_all (va_wsU own idx C owner x y (ws_ y bytes maxL reto)) :=
  lw_app (fun w hw => by
    simp only [List.mem_cons, List.not_mem_nil, or_false] at hw
    rcases hw with h | h | h | h | h <;> (subst h; assumption)) (lw_meth h5)
/-- a method that is inherited, or an abstract one that the receiver's class has -/
theorem rcU {owner : String} {x : MethodName} (hC : CallFix p m c cc nL s args lw_all own) (hl : lv_has ls nL lv) (hM : Met l y (ws_ y bytes maxL reto) (rm_ fr lo mc ms) (XP G (.ref b :: As) X) Qc mc ms free) (hK : KS G s) (hX : X H) (hrecv : Recv s H C b) (hz : (⟨owner, x.name, x.desc⟩ : MethodName) ∈ nestD) (h1 : Cond.methodLink own index x ∈ lw_all) (hs : Cond.sameMethod x.cls owner x.name x.desc ∈ lw_all) (h3 : Cond.selects C x y ∈ lw_all) (h2 : Cond.instanceMethod y ∈ lw_all) (h4 : Cond.initialized y.cls ∈ lw_all) (h5 : Cond.code y bytes maxL reto ∈ lw_all) (hd : owner ≠ "java/lang/invoke/MethodHandle" ∧ owner ≠ "java/lang/invoke/VarHandle" ∧ (parseMethodDescriptor x.desc).map (fun d => d.parameters.length) = some As.length) (hR : rmS fr lo mc ms maxL cells slots Rm) (hst : st = As.reverse ++ .ref b :: rest) (hcat : Nat.ble (rest.map fun v => v.category).sum 8 = true) (hdg : decode cc pc = .ok (.invokevirtual index, 3)) : va_Run p l e Rm s m args below meth c H locs cells slots mc ms (F0 m pc ls st) rest (Qc (Value.ref b :: As).toArray) free :=
  va_runU (As := As) (rest := rest) hC hM (va_cwA As.length hC.2.2.2.2 (inU h1 hs h3 h2 h4 h5) rfl rfl rfl (hK.2.2.2.2.1 _ hz) hd ⟨hR.1.1, by have := hR.1.2; show 8 + (maxL + 11) + lo ≤ _; omega⟩) ⟨XP.blind _, hrecv, XP.give hK hX⟩ rfl rfl hl.1 hst (lv_room (Nat.le_of_ble_eq_true hcat)) hdg hR.2
theorem rcI (hC : CallFix p m c cc nL s args lw_all own) (hl : lv_has ls nL lv) (hM : Met l y (ws_ y bytes maxL none) (rm_ fr lo mc ms) (XP G (.ref b :: As) X) Qc mc ms free) (hK : KS G s) (hX : X H) (hy1 : y.name = "<init>") (h1 : Cond.methodLink own index y ∈ lw_all) (h2 : Cond.instanceMethod y ∈ lw_all) (h4 : Cond.initialized y.cls ∈ lw_all) (h5 : Cond.code y bytes maxL none ∈ lw_all) (hd : MD y As.length) (hR : rmS fr lo mc ms maxL cells slots Rm) (hst : st = As.reverse ++ .ref b :: rest) (hcat : Nat.ble (rest.map fun v => v.category).sum 8 = true) (hdg : decode cc pc = .ok (.invokespecial index, 3)) : va_Run p l e Rm s m args below meth c H locs cells slots mc ms (F0 m pc ls st) rest (Qc (Value.ref b :: As).toArray) free :=
  va_runI (As := As) (rest := rest) hC hM (cwI As.length hC.2.2.2.2 (lw_meth h5) rfl rfl rfl (hC.2.2.2.2 _ h4) (hC.2.2.2.2 _ h1) (hC.2.2.2.2 _ h2) hy1 hd ⟨hR.1.1, by have := hR.1.2; show 8 + (maxL + 11) + lo ≤ _; omega⟩) ⟨XP.blind _, XP.give hK hX⟩ rfl rfl hl.1 hst (lv_room (Nat.le_of_ble_eq_true hcat)) hdg hR.2
theorem rcIN {host : String} (hC : CallFix p m c cc nL s args lw_all own) (hl : lv_has ls nL lv) (hM : Met l y (ws_ y bytes maxL none) (rm_ fr lo mc ms) (XP G (.ref b :: As) X) Qc mc ms free) (hK : KS G s) (hX : X H) (hy1 : y.name = "<init>") (h1 : (own, index, y, host) ∈ nestM) (h2 : Cond.instanceMethod y ∈ lw_all) (h4 : Cond.initialized y.cls ∈ lw_all) (h5 : Cond.code y bytes maxL none ∈ lw_all) (hd : MD y As.length) (hR : rmS fr lo mc ms maxL cells slots Rm) (hst : st = As.reverse ++ .ref b :: rest) (hcat : Nat.ble (rest.map fun v => v.category).sum 8 = true) (hdg : decode cc pc = .ok (.invokespecial index, 3)) : va_Run p l e Rm s m args below meth c H locs cells slots mc ms (F0 m pc ls st) rest (Qc (Value.ref b :: As).toArray) free :=
  va_runIN (As := As) (rest := rest) hC hM ⟨va_cnB As.length hC.2.2.2.2 (lw_meth h5) rfl rfl rfl (hK.2.2.1 _ h1) (hC.2.2.2.2 _ h4) hd ⟨hR.1.1, by have := hR.1.2; show 8 + (maxL + 11) + lo ≤ _; omega⟩, hy1, hC.2.2.2.2 _ h2⟩ ⟨XP.blind _, XP.give hK hX⟩ rfl rfl hl.1 hst (lv_room (Nat.le_of_ble_eq_true hcat)) hdg hR.2
/-! what a call gives -/
theorem CIs.go {av : Array Value} (hr : va_Run p l e Rm s m args below meth c H locs cells slots 0 0 (F0 m pc ls st) rest (vp_Si (fun r => r = val) av) (fun _ => False)) (kk : W p l e Rm s m args below meth c H locs cells slots Q (F0 m (pc + 3) ls (.int val :: rest))) : W p l e Rm s m args below meth c H locs cells slots Q (F0 m pc ls st) := by
  refine vp_callSi hr.run (fun r hr => ?_)
  subst hr
  exact kk
theorem CXi.go {S : Type} {P : S → Heap → Prop} {post : Int32 → S → Prop} {av : Array Value} (hr : va_Run p l e Rm s m args below meth c H locs cells slots mc ms (F0 m pc ls st) rest (va_Qi post (fun w t => P w t.heap) A av) A) (hS : va_S A0 H0 H locs) (hA : ∀ q, A q → A0 q)
    (kk : ∀ (r : Int32) (w : S) (H1 : Heap) (locs : List Loc), post r w → P w H1 → H.size ≤ H1.size → (∀ q : Nat, q < H.size → ¬ A q → H1[q]? = H[q]?) → va_S A0 H0 H1 locs → W p l e Rm s m args below meth c H1 locs (cells + mc) (slots + ms) Q (F0 m (pc + 3) ls (.int r :: rest))) : W p l e Rm s m args below meth c H locs cells slots Q (F0 m pc ls st) := by
  refine va_calli hr hS (fun q _ h => hA q h) hA (fun r w t H1 locs1 ht hvm hpo hB hz hk hS1 => ?_)
  have hB : P w t.heap := hB
  rw [ht] at hB
  exact kk r w H1 locs1 hpo hB hz hk hS1
theorem CXl.go {S : Type} {P : S → Heap → Prop} {post : Int64 → S → Prop} {av : Array Value} (hr : va_Run p l e Rm s m args below meth c H locs cells slots mc ms (F0 m pc ls st) rest (va_Ql post (fun w t => P w t.heap) A av) A) (hS : va_S A0 H0 H locs) (hA : ∀ q, A q → A0 q)
    (kk : ∀ (r : Int64) (w : S) (H1 : Heap) (locs : List Loc), post r w → P w H1 → H.size ≤ H1.size → (∀ q : Nat, q < H.size → ¬ A q → H1[q]? = H[q]?) → va_S A0 H0 H1 locs → W p l e Rm s m args below meth c H1 locs (cells + mc) (slots + ms) Q (F0 m (pc + 3) ls (.long r :: rest))) : W p l e Rm s m args below meth c H locs cells slots Q (F0 m pc ls st) := by
  refine va_calll hr hS (fun q _ h => hA q h) hA (fun r w t H1 locs1 ht hvm hpo hB hz hk hS1 => ?_)
  have hB : P w t.heap := hB
  rw [ht] at hB
  exact kk r w H1 locs1 hpo hB hz hk hS1
theorem CXv.go {S : Type} {P : S → Heap → Prop} {post : S → Prop} {av : Array Value} (hr : va_Run p l e Rm s m args below meth c H locs cells slots mc ms (F0 m pc ls st) rest (va_Qv post (fun w t => P w t.heap) A av) A) (hS : va_S A0 H0 H locs) (hA : ∀ q, A q → A0 q)
    (kk : ∀ (w : S) (H1 : Heap) (locs : List Loc), post w → P w H1 → H.size ≤ H1.size → (∀ q : Nat, q < H.size → ¬ A q → H1[q]? = H[q]?) → va_S A0 H0 H1 locs → W p l e Rm s m args below meth c H1 locs (cells + mc) (slots + ms) Q (F0 m (pc + 3) ls rest)) : W p l e Rm s m args below meth c H locs cells slots Q (F0 m pc ls st) := by
  refine va_callv hr hS (fun q _ h => hA q h) hA (fun w t H1 locs1 ht hvm hpo hB hz hk hS1 => ?_)
  have hB : P w t.heap := hB
  rw [ht] at hB
  exact kk w H1 locs1 hpo hB hz hk hS1
theorem CXq.go {S : Type} {P : S → Heap → Prop} {post : Option Nat → S → Prop} {av : Array Value} (hr : va_Run p l e Rm s m args below meth c H locs cells slots mc ms (F0 m pc ls st) rest (va_Qq post (fun w t => P w t.heap) A av) A) (hS : va_S A0 H0 H locs) (hA : ∀ q, A q → A0 q)
    (kk : ∀ (r : Option Nat) (w : S) (H1 : Heap) (locs : List Loc), post r w → P w H1 → H.size ≤ H1.size → (∀ q : Nat, q < H.size → ¬ A q → H1[q]? = H[q]?) → va_S A0 H0 H1 locs → W p l e Rm s m args below meth c H1 locs (cells + mc) (slots + ms) Q (F0 m (pc + 3) ls (va_rf r :: rest))) : W p l e Rm s m args below meth c H locs cells slots Q (F0 m pc ls st) := by
  refine va_callq hr hS (fun q _ h => hA q h) hA (fun r w t H1 locs1 ht hvm hpo hB hz hk hS1 => ?_)
  have hB : P w t.heap := hB
  rw [ht] at hB
  exact kk r w H1 locs1 hpo hB hz hk hS1
/-! fields -/
theorem S_get {v : Value} {T : u_T} {N ci q0 a : Nat} {fs : List Value} {ws : va_W} (hC : CallFix p m c cc nL s args lw_all own) (hK : KS G s) (hP : va_P G.1 vwCl ws H) (he : ws[q0]? = some (a, .inr (ci, fs))) (hc : vwCl[ci]? = some (C, T, N)) (hin : ∀ w ∈ u_ws C T N, w ∈ lw_all) (k : Nat) (hk : k < N) (hv : fs[k]? = some v) (hl : Cond.fieldLink own index (T k).1 (T k).2.1 (T k).2.2.1 ∈ lw_all) (hdg : decode cc pc = .ok (.getfield index, 3))
    (kk : W p l e Rm s m args below meth c H locs cells slots Q (F0 m (pc + 3) ls (v :: rest))) : W p l e Rm s m args below meth c H locs cells slots Q (F0 m pc ls (.ref a :: rest)) :=
  va_get hC.1 hC.2.1 hC.2.2.2.2 hin hC.2.2.2.1 hK.1 hP q0 he hc k hk (hC.2.2.2.2 _ hl) (fun _ h => h) hv hdg kk
theorem S_getN {v : Value} {T : u_T} {N ci q0 a : Nat} {fs : List Value} {ws : va_W} {host : String} (hC : CallFix p m c cc nL s args lw_all own) (hK : KS G s) (hP : va_P G.1 vwCl ws H) (he : ws[q0]? = some (a, .inr (ci, fs))) (hc : vwCl[ci]? = some (C, T, N)) (hin : ∀ w ∈ u_ws C T N, w ∈ lw_all) (k : Nat) (hk : k < N) (hv : fs[k]? = some v) (hl : (own, index, (T k).1, (T k).2.1, (T k).2.2.1, host) ∈ nestF) (hdg : decode cc pc = .ok (.getfield index, 3))
    (kk : W p l e Rm s m args below meth c H locs cells slots Q (F0 m (pc + 3) ls (v :: rest))) : W p l e Rm s m args below meth c H locs cells slots Q (F0 m pc ls (.ref a :: rest)) :=
  va_getN hC.1 hC.2.1 hC.2.2.2.2 hin hC.2.2.2.1 hK.1 hP q0 he hc k hk (va_Nw.use rfl (hK.2.1 _ hl)) (fun _ h => h) hv hdg kk
theorem S_put {v : Value} {T : u_T} {N ci q0 a : Nat} {fs : List Value} {ws ws' : va_W} {ty0 : Nat → FieldType} {ty : FieldType} (hC : CallFix p m c cc nL s args lw_all own) (hK : KS G s) (hP : va_P G.1 vwCl ws H) (hD : va_D A ws) (hS : va_S A H0 H locs) (he : ws[q0]? = some (a, .inr (ci, fs))) (hc : vwCl[ci]? = some (C, T, N)) (hin : ∀ w ∈ u_ws C T N, w ∈ lw_all) (hty : ∀ k, k < N → parseFieldDescriptor (T k).2.2.1 = some (ty0 k)) (hnm : ∀ a, a < N → ∀ b, b < N → a ≠ b → (T a).2.1 ≠ (T b).2.1) (k : Nat) (hk : k < N) (hset : ws.set q0 (a, .inr (ci, fs.set k v)) = ws') (hl : Cond.fieldLink own index (T k).1 (T k).2.1 (T k).2.2.1 ∈ lw_all) (hfin : (T k).2.2.2 = false) (hd : parseFieldDescriptor (T k).2.2.1 = some ty) (hn : narrow ty v = v) (hfit : fits ty v = true) (hlen : k < fs.length) (hdg : decode cc pc = .ok (.putfield index, 3))
    (kk : ∀ (H1 : Heap) (locs : List Loc), va_P G.1 vwCl ws' H1 → va_S A H0 H1 locs → W p l e Rm s m args below meth c H1 locs cells slots Q (F0 m (pc + 3) ls rest)) : W p l e Rm s m args below meth c H locs cells slots Q (F0 m pc ls (v :: .ref a :: rest)) := by
  refine va_put (ty := ty) hC.1 hC.2.1 hC.2.2.2.2 hin ty0 hty hnm hC.2.2.2.1 hK.1 hP hD hS q0 he hc k hk (hC.2.2.2.2 _ hl) (fun _ h => h) hfin hd hn hfit hlen hdg (fun H1 locs1 hP1 hD1 hS1 => ?_)
  rw [hset] at hP1
  exact kk H1 locs1 hP1 hS1
theorem S_putN {v : Value} {T : u_T} {N ci q0 a : Nat} {fs : List Value} {ws ws' : va_W} {ty0 : Nat → FieldType} {ty : FieldType} {host : String} (hC : CallFix p m c cc nL s args lw_all own) (hK : KS G s) (hP : va_P G.1 vwCl ws H) (hD : va_D A ws) (hS : va_S A H0 H locs) (he : ws[q0]? = some (a, .inr (ci, fs))) (hc : vwCl[ci]? = some (C, T, N)) (hin : ∀ w ∈ u_ws C T N, w ∈ lw_all) (hty : ∀ k, k < N → parseFieldDescriptor (T k).2.2.1 = some (ty0 k)) (hnm : ∀ a, a < N → ∀ b, b < N → a ≠ b → (T a).2.1 ≠ (T b).2.1) (k : Nat) (hk : k < N) (hset : ws.set q0 (a, .inr (ci, fs.set k v)) = ws') (hl : (own, index, (T k).1, (T k).2.1, (T k).2.2.1, host) ∈ nestF) (hfin : (T k).2.2.2 = false) (hd : parseFieldDescriptor (T k).2.2.1 = some ty) (hn : narrow ty v = v) (hfit : fits ty v = true) (hlen : k < fs.length) (hdg : decode cc pc = .ok (.putfield index, 3))
    (kk : ∀ (H1 : Heap) (locs : List Loc), va_P G.1 vwCl ws' H1 → va_S A H0 H1 locs → W p l e Rm s m args below meth c H1 locs cells slots Q (F0 m (pc + 3) ls rest)) : W p l e Rm s m args below meth c H locs cells slots Q (F0 m pc ls (v :: .ref a :: rest)) := by
  refine va_putN (ty := ty) hC.1 hC.2.1 hC.2.2.2.2 hin ty0 hty hnm hC.2.2.2.1 hK.1 hP hD hS q0 he hc k hk (va_Nw.use rfl (hK.2.1 _ hl)) (fun _ h => h) hfin hd hn hfit hlen hdg (fun H1 locs1 hP1 hD1 hS1 => ?_)
  rw [hset] at hP1
  exact kk H1 locs1 hP1 hS1
/-! arrays of ints, bytes, longs -/
theorem S_ald {i : Int32} {a q0 n j : Nat} {f : Nat → Int32} {ws : va_W} (hC : CallFix p m c cc nL s args lw_all own) (hK : KS G s) (hP : va_P G.1 vwCl ws H) (ha : ws[q0]? = some (a, .inl (G.2 0, n, .inl f))) (hn : n < 2 ^ 31) (hi : i = nI j) (hj : j < n) (hdg : decode cc pc = .ok (.iaload, 1))
    (kk : W p l e Rm s m args below meth c H locs cells slots Q (F0 m (pc + 1) ls (.int (f j) :: rest))) : W p l e Rm s m args below meth c H locs cells slots Q (F0 m pc ls (.int i :: .ref a :: rest)) := by
  obtain ⟨h1, h2⟩ := ix_nI hi hj hn
  refine va_iald hC.1 hC.2.1 hK.1 hP q0 0 ha rfl h1 hdg ?_
  rw [h2]; exact kk
theorem S_bald {i : Int32} {a q0 n j : Nat} {f : Nat → Int32} {ws : va_W} (hC : CallFix p m c cc nL s args lw_all own) (hK : KS G s) (hP : va_P G.1 vwCl ws H) (ha : ws[q0]? = some (a, .inl (G.2 1, n, .inl f))) (hn : n < 2 ^ 31) (hi : i = nI j) (hj : j < n) (hdg : decode cc pc = .ok (.baload, 1))
    (kk : W p l e Rm s m args below meth c H locs cells slots Q (F0 m (pc + 1) ls (.int (f j) :: rest))) : W p l e Rm s m args below meth c H locs cells slots Q (F0 m pc ls (.int i :: .ref a :: rest)) := by
  obtain ⟨h1, h2⟩ := ix_nI hi hj hn
  refine va_bald hC.1 hC.2.1 hK.1 hP q0 1 ha rfl h1 hdg ?_
  rw [h2]; exact kk
theorem S_lald {i : Int32} {a q0 n j : Nat} {f : Nat → Int64} {ws : va_W} (hC : CallFix p m c cc nL s args lw_all own) (hK : KS G s) (hP : va_P G.1 vwCl ws H) (ha : ws[q0]? = some (a, .inl (G.2 2, n, .inr (.inl f)))) (hn : n < 2 ^ 31) (hi : i = nI j) (hj : j < n) (hdg : decode cc pc = .ok (.laload, 1))
    (kk : W p l e Rm s m args below meth c H locs cells slots Q (F0 m (pc + 1) ls (.long (f j) :: rest))) : W p l e Rm s m args below meth c H locs cells slots Q (F0 m pc ls (.int i :: .ref a :: rest)) := by
  obtain ⟨h1, h2⟩ := ix_nI hi hj hn
  refine va_lald hC.1 hC.2.1 hK.1 hP q0 2 ha rfl h1 hdg ?_
  rw [h2]; exact kk
theorem S_ast {i x : Int32} {a q0 n j : Nat} {f : Nat → Int32} {ws ws' : va_W} (hC : CallFix p m c cc nL s args lw_all own) (hK : KS G s) (hP : va_P G.1 vwCl ws H) (hD : va_D A ws) (hS : va_S A H0 H locs) (ha : ws[q0]? = some (a, .inl (G.2 0, n, .inl f))) (hset : ws.set q0 (a, .inl (G.2 0, n, .inl (upd f j x))) = ws') (hn : n < 2 ^ 31) (hi : i = nI j) (hj : j < n) (hdg : decode cc pc = .ok (.iastore, 1))
    (kk : ∀ (H1 : Heap) (locs : List Loc), va_P G.1 vwCl ws' H1 → va_S A H0 H1 locs → W p l e Rm s m args below meth c H1 locs cells slots Q (F0 m (pc + 1) ls rest)) : W p l e Rm s m args below meth c H locs cells slots Q (F0 m pc ls (.int x :: .int i :: .ref a :: rest)) := by
  obtain ⟨h1, h2⟩ := ix_nI hi hj hn
  refine va_iast hC.1 hC.2.1 hK.1 hP hD hS q0 0 ha rfl h1 hdg (fun H1 locs1 hP1 hD1 hS1 => ?_)
  rw [h2, hset] at hP1
  exact kk H1 locs1 hP1 hS1
theorem S_bast {i x : Int32} {a q0 n j : Nat} {f : Nat → Int32} {ws ws' : va_W} (hC : CallFix p m c cc nL s args lw_all own) (hK : KS G s) (hP : va_P G.1 vwCl ws H) (hD : va_D A ws) (hS : va_S A H0 H locs) (ha : ws[q0]? = some (a, .inl (G.2 1, n, .inl f))) (hset : ws.set q0 (a, .inl (G.2 1, n, .inl (upd f j (vp_nar .byte x)))) = ws') (hn : n < 2 ^ 31) (hi : i = nI j) (hj : j < n) (hdg : decode cc pc = .ok (.bastore, 1))
    (kk : ∀ (H1 : Heap) (locs : List Loc), va_P G.1 vwCl ws' H1 → va_S A H0 H1 locs → W p l e Rm s m args below meth c H1 locs cells slots Q (F0 m (pc + 1) ls rest)) : W p l e Rm s m args below meth c H locs cells slots Q (F0 m pc ls (.int x :: .int i :: .ref a :: rest)) := by
  obtain ⟨h1, h2⟩ := ix_nI hi hj hn
  refine va_bast hC.1 hC.2.1 hK.1 hP hD hS q0 1 ha rfl h1 hdg (fun H1 locs1 hP1 hD1 hS1 => ?_)
  rw [h2, hset] at hP1
  exact kk H1 locs1 hP1 hS1
theorem S_last {i : Int32} {x : Int64} {a q0 n j : Nat} {f : Nat → Int64} {ws ws' : va_W} (hC : CallFix p m c cc nL s args lw_all own) (hK : KS G s) (hP : va_P G.1 vwCl ws H) (hD : va_D A ws) (hS : va_S A H0 H locs) (ha : ws[q0]? = some (a, .inl (G.2 2, n, .inr (.inl f)))) (hset : ws.set q0 (a, .inl (G.2 2, n, .inr (.inl (vp_updL f j x)))) = ws') (hn : n < 2 ^ 31) (hi : i = nI j) (hj : j < n) (hdg : decode cc pc = .ok (.lastore, 1))
    (kk : ∀ (H1 : Heap) (locs : List Loc), va_P G.1 vwCl ws' H1 → va_S A H0 H1 locs → W p l e Rm s m args below meth c H1 locs cells slots Q (F0 m (pc + 1) ls rest)) : W p l e Rm s m args below meth c H locs cells slots Q (F0 m pc ls (.long x :: .int i :: .ref a :: rest)) := by
  obtain ⟨h1, h2⟩ := ix_nI hi hj hn
  refine va_last hC.1 hC.2.1 hK.1 hP hD hS q0 2 ha rfl h1 hdg (fun H1 locs1 hP1 hD1 hS1 => ?_)
  rw [h2, hset] at hP1
  exact kk H1 locs1 hP1 hS1
theorem S_alen {a q0 n : Nat} {f : Nat → Int32} {ws : va_W} (hC : CallFix p m c cc nL s args lw_all own) (hK : KS G s) (hP : va_P G.1 vwCl ws H) (ha : ws[q0]? = some (a, .inl (G.2 0, n, .inl f))) (hdg : decode cc pc = .ok (.arraylength, 1))
    (kk : W p l e Rm s m args below meth c H locs cells slots Q (F0 m (pc + 1) ls (.int (nI n) :: rest))) : W p l e Rm s m args below meth c H locs cells slots Q (F0 m pc ls (.ref a :: rest)) :=
  va_alen (v := nI n) hC.1 hC.2.1 hK.1 hP q0 0 ha rfl rfl hdg kk
end SCALL
section SMK
variable {G : GG} {l : Launch} {y : MethodName} {cc : ByteArray} {nL : Nat} {ret : FieldType} {fr lo mc ms : Nat} {av : List Value} {X : Heap → Prop} {val : Int32} {A : Nat → Prop}
theorem CIs.mk (own : String) (hy : plainName y.cls = true) (hown : y.cls = own) (hnar : narrow ret (.int val) = .int val) (hn : (lg_sl av).length ≤ nL)
    (body : ∀ (p : Program) (e : Env) (R : Room) (s : State) (m : MethodId) (args : Array Value) (below : List Frame) (meth : Method) (c : Code) (Q : State → Prop) (ls : Array Slot), CallFix p m c cc nL s args lw_all own → R = rm_ fr lo 0 0 → KS G s → X s.heap → lv_has ls nL (lv_args 0 av) →
      (∀ (pc : Nat) (ls : Array Slot) (v : Int32), decode cc pc = .ok (.ireturn, 1) → v = val → W p l e R s m args below meth c s.heap [] 0 0 Q (F0 m pc ls [.int v])) → W p l e R s m args below meth c s.heap [] 0 0 Q (F0 m 0 ls [])) : CIs G l y cc nL ret fr lo av X val := by
  refine Met.ofW (cc := cc) (maxL := nL) (ret := some ret) hy rfl ?_
  intro p e s m args below meth c s₁ B hml hv
  obtain ⟨rfl, hK, hX⟩ := hv
  have hx := B.exec
  have hb := B.bytes
  have hr := B.returns
  have hts := atoms_spec (ws := ws_ y cc nL (some ret)) B.pre
  have hts : ∀ w ∈ lw_all, w.before _ s = true := fun w h => hts w (List.mem_cons_of_mem _ h)
  have ho : s.vm.findClass own = some m.cls := by rw [← hown]; exact findClass_of_methodNamed B.named
  have hlocks := B.notSynchronized
  have hl := lv_entry av (n := nL) hn
  rw [lg_entry_eq]
  refine body p e _ s m _ below meth c _ _ ⟨hx, hb, hml, ho, hts⟩ rfl hK hX hl ?_
  intro pc ls v hd hv
  subst hv
  exact W.zret hx hb hr hnar (fun t ht hW => ⟨_, rfl, rfl, ht⟩) (fun q h => by cases h) hd
/-- the same for a member of a class that the machine has entries for -/
theorem CIs.mkF (own : String) (hy : plainFor y = true) (hown : y.cls = own) (hnar : narrow ret (.int val) = .int val) (hn : (lg_sl av).length ≤ nL)
    (body : ∀ (p : Program) (e : Env) (R : Room) (s : State) (m : MethodId) (args : Array Value) (below : List Frame) (meth : Method) (c : Code) (Q : State → Prop) (ls : Array Slot), CallFix p m c cc nL s args lw_all own → R = rm_ fr lo 0 0 → KS G s → X s.heap → lv_has ls nL (lv_args 0 av) →
      (∀ (pc : Nat) (ls : Array Slot) (v : Int32), decode cc pc = .ok (.ireturn, 1) → v = val → W p l e R s m args below meth c s.heap [] 0 0 Q (F0 m pc ls [.int v])) → W p l e R s m args below meth c s.heap [] 0 0 Q (F0 m 0 ls [])) : CIs G l y cc nL ret fr lo av X val := by
  refine va_MetF (cc := cc) (maxL := nL) (ret := some ret) hy rfl ?_
  intro p e s m args below meth c s₁ B hml hv
  obtain ⟨rfl, hK, hX⟩ := hv
  have hx := B.exec
  have hb := B.bytes
  have hr := B.returns
  have hts := atoms_spec (ws := ws_ y cc nL (some ret)) B.pre
  have hts : ∀ w ∈ lw_all, w.before _ s = true := fun w h => hts w (List.mem_cons_of_mem _ h)
  have ho : s.vm.findClass own = some m.cls := by rw [← hown]; exact findClass_of_methodNamed B.named
  have hlocks := B.notSynchronized
  have hl := lv_entry av (n := nL) hn
  rw [lg_entry_eq]
  refine body p e _ s m _ below meth c _ _ ⟨hx, hb, hml, ho, hts⟩ rfl hK hX hl ?_
  intro pc ls v hd hv
  subst hv
  exact W.zret hx hb hr hnar (fun t ht hW => ⟨_, rfl, rfl, ht⟩) (fun q h => by cases h) hd
theorem CXi.mk {S : Type} {P : S → Heap → Prop} {post : Int32 → S → Prop} (own : String) (hy : plainName y.cls = true) (hown : y.cls = own) (hn : (lg_sl av).length ≤ nL)
    (body : ∀ (p : Program) (e : Env) (Rm : Room) (s : State) (m : MethodId) (args : Array Value) (below : List Frame) (meth : Method) (c : Code) (Q : State → Prop) (ls : Array Slot), CallFix p m c cc nL s args lw_all own → Rm = rm_ fr lo mc ms → KS G s → X s.heap → va_S A s.heap s.heap [] → lv_has ls nL (lv_args 0 av) →
      (∀ (pc : Nat) (ls : Array Slot) (v : Int32) (w : S) (H : Heap) (locs : List Loc) (cells slots : Nat), decode cc pc = .ok (.ireturn, 1) → P w H → va_S A s.heap H locs → narrow ret (.int v) = .int v → post v w → cells ≤ mc → slots ≤ ms → W p l e Rm s m args below meth c H locs cells slots Q (F0 m pc ls [.int v])) → W p l e Rm s m args below meth c s.heap [] 0 0 Q (F0 m 0 ls [])) : CXi G l P A y cc nL ret fr lo mc ms av X post := by
  refine Met.ofW (cc := cc) (maxL := nL) (ret := some ret) hy rfl ?_
  intro p e s m args below meth c s₁ B hml hv
  obtain ⟨rfl, hK, hX⟩ := hv
  have hx := B.exec
  have hb := B.bytes
  have hr := B.returns
  have hts := atoms_spec (ws := ws_ y cc nL (some ret)) B.pre
  have hts : ∀ w ∈ lw_all, w.before _ s = true := fun w h => hts w (List.mem_cons_of_mem _ h)
  have ho : s.vm.findClass own = some m.cls := by rw [← hown]; exact findClass_of_methodNamed B.named
  have hlocks := B.notSynchronized
  have hl := lv_entry av (n := nL) hn
  rw [lg_entry_eq]
  refine body p e _ s m _ below meth c _ _ ⟨hx, hb, hml, ho, hts⟩ rfl hK hX va_S.rf hl ?_
  intro pc ls v w H locs cells slots hd hP hS hnar hv hc hs
  exact W.widen hc hs (W.zret hx hb hr hnar (fun t ht hW => ⟨⟨v, w, rfl, hv, by show P w t.heap; rw [ht]; exact hP⟩, hS.F ht⟩) hS.2.2 hd)
theorem CXl.mk {S : Type} {P : S → Heap → Prop} {post : Int64 → S → Prop} (own : String) (hy : plainName y.cls = true) (hown : y.cls = own) (hn : (lg_sl av).length ≤ nL)
    (body : ∀ (p : Program) (e : Env) (Rm : Room) (s : State) (m : MethodId) (args : Array Value) (below : List Frame) (meth : Method) (c : Code) (Q : State → Prop) (ls : Array Slot), CallFix p m c cc nL s args lw_all own → Rm = rm_ fr lo mc ms → KS G s → X s.heap → va_S A s.heap s.heap [] → lv_has ls nL (lv_args 0 av) →
      (∀ (pc : Nat) (ls : Array Slot) (v : Int64) (w : S) (H : Heap) (locs : List Loc) (cells slots : Nat), decode cc pc = .ok (.lreturn, 1) → P w H → va_S A s.heap H locs → True → post v w → cells ≤ mc → slots ≤ ms → W p l e Rm s m args below meth c H locs cells slots Q (F0 m pc ls [.long v])) → W p l e Rm s m args below meth c s.heap [] 0 0 Q (F0 m 0 ls [])) : CXl G l P A y cc nL fr lo mc ms av X post := by
  refine Met.ofW (cc := cc) (maxL := nL) (ret := some .long) hy rfl ?_
  intro p e s m args below meth c s₁ B hml hv
  obtain ⟨rfl, hK, hX⟩ := hv
  have hx := B.exec
  have hb := B.bytes
  have hr := B.returns
  have hts := atoms_spec (ws := ws_ y cc nL (some .long)) B.pre
  have hts : ∀ w ∈ lw_all, w.before _ s = true := fun w h => hts w (List.mem_cons_of_mem _ h)
  have ho : s.vm.findClass own = some m.cls := by rw [← hown]; exact findClass_of_methodNamed B.named
  have hlocks := B.notSynchronized
  have hl := lv_entry av (n := nL) hn
  rw [lg_entry_eq]
  refine body p e _ s m _ below meth c _ _ ⟨hx, hb, hml, ho, hts⟩ rfl hK hX va_S.rf hl ?_
  intro pc ls v w H locs cells slots hd hP hS _ hv hc hs
  exact W.widen hc hs (W.lret hx hb hr (fun t ht hW => ⟨⟨v, w, rfl, hv, by show P w t.heap; rw [ht]; exact hP⟩, hS.F ht⟩) hS.2.2 hd)
theorem CXv.mk {S : Type} {P : S → Heap → Prop} {post : S → Prop} (own : String) (hy : plainName y.cls = true) (hown : y.cls = own) (hn : (lg_sl av).length ≤ nL)
    (body : ∀ (p : Program) (e : Env) (Rm : Room) (s : State) (m : MethodId) (args : Array Value) (below : List Frame) (meth : Method) (c : Code) (Q : State → Prop) (ls : Array Slot), CallFix p m c cc nL s args lw_all own → Rm = rm_ fr lo mc ms → KS G s → X s.heap → va_S A s.heap s.heap [] → lv_has ls nL (lv_args 0 av) →
      (∀ (pc : Nat) (ls : Array Slot) (w : S) (H : Heap) (locs : List Loc) (cells slots : Nat), decode cc pc = .ok (.return_, 1) → P w H → va_S A s.heap H locs → post w → cells ≤ mc → slots ≤ ms → W p l e Rm s m args below meth c H locs cells slots Q (F0 m pc ls [])) → W p l e Rm s m args below meth c s.heap [] 0 0 Q (F0 m 0 ls [])) : CXv G l P A y cc nL fr lo mc ms av X post := by
  refine Met.ofW (cc := cc) (maxL := nL) (ret := none) hy rfl ?_
  intro p e s m args below meth c s₁ B hml hv
  obtain ⟨rfl, hK, hX⟩ := hv
  have hx := B.exec
  have hb := B.bytes
  have hr := B.returns
  have hts := atoms_spec (ws := ws_ y cc nL none) B.pre
  have hts : ∀ w ∈ lw_all, w.before _ s = true := fun w h => hts w (List.mem_cons_of_mem _ h)
  have ho : s.vm.findClass own = some m.cls := by rw [← hown]; exact findClass_of_methodNamed B.named
  have hlocks := B.notSynchronized
  have hl := lv_entry av (n := nL) hn
  rw [lg_entry_eq]
  refine body p e _ s m _ below meth c _ _ ⟨hx, hb, hml, ho, hts⟩ rfl hK hX va_S.rf hl ?_
  intro pc ls w H locs cells slots hd hP hS hv hc hs
  exact W.widen hc hs (W.vret hx hb hr (fun t ht hW => ⟨⟨w, rfl, hv, by show P w t.heap; rw [ht]; exact hP⟩, hS.F ht⟩) hS.2.2 hd)
theorem rf_val (r : Option Nat) : va_rf r = .null ∨ ∃ a, va_rf r = .ref a := by cases r with
  | none => exact Or.inl rfl
  | some a => exact Or.inr ⟨a, rfl⟩
theorem CXq.mk {S : Type} {P : S → Heap → Prop} {post : Option Nat → S → Prop} (own : String) (hrt : (∃ n, ret = .object n) ∨ ∃ t, ret = .array t) (hy : plainName y.cls = true) (hown : y.cls = own) (hn : (lg_sl av).length ≤ nL)
    (body : ∀ (p : Program) (e : Env) (Rm : Room) (s : State) (m : MethodId) (args : Array Value) (below : List Frame) (meth : Method) (c : Code) (Q : State → Prop) (ls : Array Slot), CallFix p m c cc nL s args lw_all own → Rm = rm_ fr lo mc ms → KS G s → X s.heap → va_S A s.heap s.heap [] → lv_has ls nL (lv_args 0 av) →
      (∀ (pc : Nat) (ls : Array Slot) (v : Option Nat) (w : S) (H : Heap) (locs : List Loc) (cells slots : Nat), decode cc pc = .ok (.areturn, 1) → P w H → va_S A s.heap H locs → post v w → cells ≤ mc → slots ≤ ms → W p l e Rm s m args below meth c H locs cells slots Q (F0 m pc ls [va_rf v])) → W p l e Rm s m args below meth c s.heap [] 0 0 Q (F0 m 0 ls [])) : CXq G l P A y cc nL ret fr lo mc ms av X post := by
  refine Met.ofW (cc := cc) (maxL := nL) (ret := some ret) hy rfl ?_
  intro p e s m args below meth c s₁ B hml hv
  obtain ⟨rfl, hK, hX⟩ := hv
  have hx := B.exec
  have hb := B.bytes
  have hr := B.returns
  have hts := atoms_spec (ws := ws_ y cc nL (some ret)) B.pre
  have hts : ∀ w ∈ lw_all, w.before _ s = true := fun w h => hts w (List.mem_cons_of_mem _ h)
  have ho : s.vm.findClass own = some m.cls := by rw [← hown]; exact findClass_of_methodNamed B.named
  have hlocks := B.notSynchronized
  have hl := lv_entry av (n := nL) hn
  rw [lg_entry_eq]
  refine body p e _ s m _ below meth c _ _ ⟨hx, hb, hml, ho, hts⟩ rfl hK hX va_S.rf hl ?_
  intro pc ls v w H locs cells slots hd hP hS hv hc hs
  exact W.widen hc hs (W.aret hx hb hr hrt (rf_val v) (fun t ht hW => ⟨⟨v, w, rfl, hv, by show P w t.heap; rw [ht]; exact hP⟩, hS.F ht⟩) hS.2.2 hd)
end SMK
section SMATH
variable {G : GG} {p : Program} {l : Launch} {e : Env} {Rm : Room} {s : State} {m : MethodId} {args : Array Value} {below : List Frame} {meth : Method} {c : Code} {H : Heap} {locs : List Loc} {cells slots : Nat} {Q : State → Prop}
variable {cc : ByteArray} {nL index pc : Nat} {own : String} {ls : Array Slot} {rest : List Value} {lv : List (Nat × Value)}
theorem mx_k (x y : Int32) : (if x < y then y else x) = mxI x y := by
  unfold mxI
  by_cases h1 : x < y
  · rw [if_pos h1, if_neg (Int32.not_lt.mpr (Int32.le_of_lt h1))]
  · rw [if_neg h1]
    by_cases h2 : y < x
    · rw [if_pos h2]
    · rw [if_neg h2]; exact Int32.le_antisymm (Int32.not_lt.mp h2) (Int32.not_lt.mp h1)
theorem mn_k (x y : Int32) : (if y < x then y else x) = mnI x y := by
  unfold mnI
  by_cases h1 : x < y
  · rw [if_pos h1, if_neg (Int32.not_lt.mpr (Int32.le_of_lt h1))]
  · rw [if_neg h1]
    by_cases h2 : y < x
    · rw [if_pos h2]
    · rw [if_neg h2]; exact Int32.le_antisymm (Int32.not_lt.mp h2) (Int32.not_lt.mp h1)
theorem ab_k (x : Int32) : (if 0 ≤ x then x else 0 - x) = abI x := by
  unfold abI
  by_cases h1 : x < 0
  · rw [if_pos h1, if_neg (Int32.not_le.mpr h1), Int32.zero_sub]
  · rw [if_neg h1, if_pos (Int32.not_lt.mp h1)]
abbrev rmM (cells slots : Nat) (Rm : Room) : Prop := 1 ≤ Rm.frames ∧ 21 ≤ Rm.locals ∧ cells ≤ Rm.cells ∧ slots ≤ Rm.slots
theorem room_m {fr0 lo0 mc0 ms0 : Nat} (h : Rm = rm_ fr0 lo0 mc0 ms0) (hb : (Nat.ble 1 fr0 && Nat.ble 21 lo0 && Nat.ble cells mc0 && Nat.ble slots ms0) = true) : rmM cells slots Rm := by
  subst h
  simp only [Bool.and_eq_true, Nat.ble_eq] at hb
  exact ⟨hb.1.1.1, hb.1.1.2, hb.1.2, hb.2⟩
theorem room_s {fr0 lo0 mc0 ms0 fr lo mc ms maxL : Nat} (h : Rm = rm_ fr0 lo0 mc0 ms0) (hb : (Nat.ble (fr + 1) fr0 && Nat.ble (19 + maxL + lo) lo0 && Nat.ble (cells + mc) mc0 && Nat.ble (slots + ms) ms0) = true) : rmS fr lo mc ms maxL cells slots Rm := by
  subst h
  simp only [Bool.and_eq_true, Nat.ble_eq] at hb
  exact ⟨⟨hb.1.1.1, hb.1.1.2⟩, hb.1.2, hb.2⟩
theorem S_max {x y : Int32} (hC : CallFix p m c cc nL s args lw_all own) (hl : lv_has ls nL lv) (h1 : Cond.methodLink own index Lib.Math.max.name ∈ lw_all) (h2 : Cond.static Lib.Math.max.name ∈ lw_all) (h3 : Cond.initialized "java/lang/Math" ∈ lw_all) (h4 : Cond.code Lib.Math.max.name Lib.Math.max.code 2 (some .int) ∈ lw_all) (hR : rmM cells slots Rm) (hcat : Nat.ble (rest.map fun v => v.category).sum 8 = true) (hdg : decode cc pc = .ok (.invokestatic index, 3))
    (kk : W p l e Rm s m args below meth c H locs cells slots Q (F0 m (pc + 3) ls (.int (mxI x y) :: rest))) : W p l e Rm s m args below meth c H locs cells slots Q (F0 m pc ls (.int y :: .int x :: rest)) := by
  have h8 := Nat.le_of_ble_eq_true hcat
  refine va_mmax hC.1 hC.2.1 (by rw [hC.2.2.1]; exact hl.1.symm) hC.2.2.2.1 (hC.2.2.2.2 _ h1) (hC.2.2.2.2 _ h2) (hC.2.2.2.2 _ h3) (hC.2.2.2.2 _ h4) hR.1 (by have := hR.2.1; omega) hR.2.2.1 hR.2.2.2 hdg ?_
  rw [mx_k]; exact kk
theorem S_min {x y : Int32} (hC : CallFix p m c cc nL s args lw_all own) (hl : lv_has ls nL lv) (h1 : Cond.methodLink own index Lib.Math.min.name ∈ lw_all) (h2 : Cond.static Lib.Math.min.name ∈ lw_all) (h3 : Cond.initialized "java/lang/Math" ∈ lw_all) (h4 : Cond.code Lib.Math.min.name Lib.Math.min.code 2 (some .int) ∈ lw_all) (hR : rmM cells slots Rm) (hcat : Nat.ble (rest.map fun v => v.category).sum 8 = true) (hdg : decode cc pc = .ok (.invokestatic index, 3))
    (kk : W p l e Rm s m args below meth c H locs cells slots Q (F0 m (pc + 3) ls (.int (mnI x y) :: rest))) : W p l e Rm s m args below meth c H locs cells slots Q (F0 m pc ls (.int y :: .int x :: rest)) := by
  have h8 := Nat.le_of_ble_eq_true hcat
  refine va_mmin hC.1 hC.2.1 (by rw [hC.2.2.1]; exact hl.1.symm) hC.2.2.2.1 (hC.2.2.2.2 _ h1) (hC.2.2.2.2 _ h2) (hC.2.2.2.2 _ h3) (hC.2.2.2.2 _ h4) hR.1 (by have := hR.2.1; omega) hR.2.2.1 hR.2.2.2 hdg ?_
  rw [mn_k]; exact kk
theorem S_abs {x : Int32} (hC : CallFix p m c cc nL s args lw_all own) (hl : lv_has ls nL lv) (h1 : Cond.methodLink own index Lib.Math.abs.name ∈ lw_all) (h2 : Cond.static Lib.Math.abs.name ∈ lw_all) (h3 : Cond.initialized "java/lang/Math" ∈ lw_all) (h4 : Cond.code Lib.Math.abs.name Lib.Math.abs.code 1 (some .int) ∈ lw_all) (hR : rmM cells slots Rm) (hcat : Nat.ble (rest.map fun v => v.category).sum 8 = true) (hdg : decode cc pc = .ok (.invokestatic index, 3))
    (kk : W p l e Rm s m args below meth c H locs cells slots Q (F0 m (pc + 3) ls (.int (abI x) :: rest))) : W p l e Rm s m args below meth c H locs cells slots Q (F0 m pc ls (.int x :: rest)) := by
  have h8 := Nat.le_of_ble_eq_true hcat
  refine va_mabs hC.1 hC.2.1 (by rw [hC.2.2.1]; exact hl.1.symm) hC.2.2.2.1 (hC.2.2.2.2 _ h1) (hC.2.2.2.2 _ h2) (hC.2.2.2.2 _ h3) (hC.2.2.2.2 _ h4) hR.1 (by have := hR.2.1; omega) hR.2.2.1 hR.2.2.2 hdg ?_
  rw [ab_k]; exact kk
end SMATH

