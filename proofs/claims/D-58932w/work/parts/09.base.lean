/-! THE BASE: a ghost heap beside the machine's; a method's contract over ghost heaps; a row an instruction -/
section ZBASE
/-- the class book, the first address of the run's own cells, a book of addresses and class numbers -/
abbrev zG : Type := va_G × Nat × (Nat → Nat)
/-- a ghost cell: an array of a kind, an object of a class (fields), a lambda of a site (captured) -/
abbrev zE : Type := (Nat × vp_A) ⊕ ((Nat × List Value) ⊕ (Nat × List Value))
abbrev GH : Type := Nat → Option zE
abbrev zO (ci : Nat) (fs : List Value) : zE := .inr (.inl (ci, fs))
abbrev zLm (k : Nat) (vs : List Value) : zE := .inr (.inr (k, vs))
abbrev zAi (t n : Nat) (f : Int → Int) : zE := .inl (t, n, .inl fun j => jI (f j))
abbrev zAl (n : Nat) (f : Int → Int) : zE := .inl (11, n, .inr (.inl fun j => Int64.ofInt (f j)))
abbrev zAq (t n : Nat) (f : Nat → Option Nat) : zE := .inl (t, n, .inr (.inr (.inr (.inr f))))
def zCl : List vw_C := [(RX1, TX1, 4), (RX2, TX2, 17), (RX3, TX3, 2), (RX4, TX4, 2), (RX5, TX5, 3), (RX6, TX6, 4), (RX8, TX8, 16), (RX9, TX9, 5), (RX10, TX10, 5), (RX12, TX12, 3), (RX13, TX13, 5), (RX15, TX15, 2), (RX16, TX16, 2), (RJ2, TJ2, 3), (RJ6, TJ6, 3), (RJ8, TJ8, 4)]
def zTy : Nat → FieldType := fun t => match t with
  | 10 => .int
  | 11 => .long
  | 12 => .boolean
  | 13 => .byte
  | 14 => .object "java/lang/Object"
  | 15 => .object "PaperMill$Work"
  | _ => .object "PaperMill$Reason"
def zTys (b : Nat → Nat) : List (ClassId × FieldType) := [(b 10, .int), (b 11, .long), (b 12, .boolean), (b 13, .byte), (b 14, .object "java/lang/Object"), (b 15, .object "PaperMill$Work"), (b 16, .object "PaperMill$Reason")]
abbrev zA (g : zG) : Nat → Prop := fun q => g.2.1 ≤ q
def zat (g : zG) (q : Nat) (e : zE) (H : Heap) : Prop := match e with
  | .inl a => H[q]? = some (vp_cell (g.2.2 a.1) a.2)
  | .inr (.inl o) => va_at g.1 zCl (q, .inr o) H
  | .inr (.inr o) => H[q]? = some { cls := g.2.2 (20 + o.1), slots := o.2.toArray, vm := .none }
theorem zat.lt {g : zG} {q : Nat} {e : zE} {H : Heap} (h : zat g q e H) : q < H.size := by
  obtain a | o | o := e
  · exact (Array.getElem?_eq_some_iff.mp h).1
  · exact va_at.lt (q := (q, .inr o)) (D := g.1) (cl := zCl) h
  · exact (Array.getElem?_eq_some_iff.mp h).1
theorem zat.kept {g : zG} {q : Nat} {e : zE} {H H1 : Heap} (h : zat g q e H) (hq : H1[q]? = H[q]?) : zat g q e H1 := by
  obtain a | o | o := e
  · exact hq.trans h
  · exact va_at.kept (q := (q, .inr o)) (D := g.1) (cl := zCl) h hq
  · exact hq.trans h
def zH (g : zG) (h : GH) (H : Heap) : Prop := ∀ q e, h q = some e → g.2.1 ≤ q ∧ zat g q e H
def hset (h : GH) (q : Nat) (e : zE) : GH := fun x => if x = q then some e else h x
theorem hset_s {h : GH} {q : Nat} {e : zE} : hset h q e q = some e := if_pos rfl
theorem hset_n {h : GH} {q x : Nat} {e : zE} (hn : x ≠ q) : hset h q e x = h x := if_neg hn
theorem zH.set {g : zG} {h : GH} {H H1 : Heap} {q : Nat} {e : zE} (hH : zH g h H) (hb : g.2.1 ≤ q) (h1 : zat g q e H1) (ho : ∀ x, x ≠ q → H1[x]? = H[x]?) : zH g (hset h q e) H1 := by
  intro x e2 h2
  by_cases hx : x = q
  · subst hx
    rw [hset_s] at h2
    cases h2
    exact ⟨hb, h1⟩
  · rw [hset_n hx] at h2
    exact ⟨(hH x e2 h2).1, (hH x e2 h2).2.kept (ho x hx)⟩
theorem zH.none {g : zG} {h : GH} {H : Heap} (hH : zH g h H) {q : Nat} (hq : H.size ≤ q) : h q = none := by
  cases he : h q with
  | none => rfl
  | some e =>
    have := (hH q e he).2.lt
    omega
theorem zH.lt {g : zG} {h : GH} {H : Heap} (hH : zH g h H) {q : Nat} {e : zE} (he : h q = some e) : q < H.size := (hH q e he).2.lt
/-- what stands all through a run, of the tables and of the cells ahead of the run's own -/
def zFacts (g : zG) (U : State) : Prop :=
  va_K g.1 zCl (zTys g.2.2) U ∧
  (vx_Zq Bundle.tN "UNASSIGNED_STACK" Bundle.steD (zA g) U U.heap ∧ vx_Zq Bundle.tN "SUPPRESSED_SENTINEL" Bundle.listD (zA g) U U.heap) ∧
  (va_Z "java/util/ArrayList" "DEFAULTCAPACITY_EMPTY_ELEMENTDATA" "[Ljava/lang/Object;" (.ref (g.2.2 6)) (zA g) U U.heap ∧ va_T (.object "java/lang/Object") (g.2.2 6) 0 (fun _ => .null) (zA g) U U.heap) ∧
  va_Z "java/lang/String" "COMPACT_STRINGS" "Z" (.int 1) (zA g) U U.heap ∧
  ((∀ i, i < 3 → va_Z "PaperMill$Size" (["POT", "CROWN", "ROYAL"].getD i "") "LPaperMill$Size;" (.ref (g.2.2 i)) (zA g) U U.heap ∧ va_O (["PaperMill$Size$1", "PaperMill$Size$2", "PaperMill$Size$3"].getD i "") (g.2.2 i) (zA g) U U.heap) ∧
   (∀ i, i < 3 → va_Z "PaperMill$Grade" (["FINE", "GOOD", "COARSE"].getD i "") "LPaperMill$Grade;" (.ref (g.2.2 (3 + i))) (zA g) U U.heap ∧ va_O (["PaperMill$Grade$1", "PaperMill$Grade$2", "PaperMill$Grade$3"].getD i "") (g.2.2 (3 + i)) (zA g) U U.heap) ∧
   (∀ i j, i < 6 → j < 6 → g.2.2 i = g.2.2 j → i = j)) ∧
  va_Mi "[Ljava/lang/Object;" (g.2.2 7) U ∧
  (∀ w ∈ lw_tbl, (match w with | .castable _ _ => true | .fieldLinkNest _ _ _ _ _ _ => true | .methodLinkNest _ _ _ _ => true | .declares _ => true | .arrayOver _ => true | .interfaceMethod _ _ _ _ => true | .publicMethod _ => true | .privateMethod _ => true | .unhidden _ _ _ => true | _ => false) = true → w.before #[] U = true) ∧
  ((∀ T ∈ ["java/lang/IndexOutOfBoundsException", "java/lang/IllegalArgumentException"], va_Nc "java/lang/IllegalStateException" T U) ∧ va_Nc "java/lang/IllegalArgumentException" "java/lang/IndexOutOfBoundsException" U) ∧
  (∀ i x pc idx σ, ([(0, siteWord_1_1), (1, siteWord_1_2), (2, siteWord_1_3), (3, siteWord_1_4), (4, siteWord_1_5), (5, siteWord_1_6), (6, siteWord_1_7), (7, siteWord_1_8), (8, siteWord_1_9), (9, siteWord_1_10), (10, siteWord_1_11), (11, siteWord_1_12), (12, siteWord_1_13), (13, siteWord_1_14)] : List (Nat × Cond)).find? (fun z => z.1 == i) = some (i, .lambdaSite x pc idx σ) → U.lambdaAt? x pc idx σ = some (g.2.2 (20 + i), none)) ∧
  (va_Zq "jdk/internal/util/Preconditions" "SIOOBE_FORMATTER" "Ljava/util/function/BiFunction;" (zA g) U U.heap ∧ (va_Nc "PaperMill$Both" "PaperMill$Rag" U ∧ va_Nc "PaperMill$Times" "PaperMill$Rag" U ∧ va_Nc "PaperMill$Times" "PaperMill$Both" U))
def zSt (g : zG) (U : State) : Prop := ∀ U' : State, U.WarmedH U'.vm → (∀ q, q < g.2.1 → U'.heap[q]? = U.heap[q]?) → g.2.1 ≤ U'.heap.size → zFacts g U'
def zK (g : zG) (U : State) : Prop := g.2.1 ≤ U.heap.size ∧ zSt g U
theorem zK.facts {g : zG} {U : State} (h : zK g U) : zFacts g U := h.2 U (State.WarmedH.refl U) (fun _ _ => rfl) h.1
theorem zK.go {g : zG} {s U : State} (h : zK g s) (hW : s.WarmedH U.vm) (hq : ∀ q, q < g.2.1 → U.heap[q]? = s.heap[q]?) (hz : g.2.1 ≤ U.heap.size) : zK g U :=
  ⟨hz, fun U' hW' hq' hz' => h.2 U' (State.WarmedH.trans hW hW') (fun q hlt => (hq' q hlt).trans (hq q hlt)) hz'⟩
theorem zK.S {g : zG} {s U : State} {locs : List Loc} (h : zK g s) (hW : s.WarmedH U.vm) (hS : va_S (zA g) s.heap U.heap locs) : zK g U :=
  h.go hW (fun q hq => hS.2.1 q (Nat.lt_of_lt_of_le hq h.1) (Nat.not_le.mpr hq)) (Nat.le_trans h.1 hS.1)
theorem zK.calling {g : zG} {U : State} (h : zK g U) (f : JFrame) (mk : MethodId) (a : Array Value) : zK g (U.calling f mk a) :=
  h.go (U := U.calling f mk a) (State.WarmedH.refl U) (fun _ _ => rfl) h.1
/-- a method's fixed things: program .. code, the book, what its end owes -/
abbrev ZC : Type := Program × Launch × Env × Room × State × MethodId × Array Value × List Frame × Method × Code × zG × (State → Prop)
abbrev zrm (d mc ms : Nat) : Room := { frames := d, cells := mc, slots := ms, locals := 40 * d }
def zQc (g : zG) (post : Option Value → GH → Prop) : Array Value → State → Outcome → State → Prop := fun _ st o t => (∃ v h, o = .returned v ∧ post v h ∧ zH g h t.heap) ∧ va_F (zA g) st t
def zXC (g : zG) (px : String → GH → Prop) : String → State → State → Prop := fun E st t => (∃ h, px E h ∧ zH g h t.heap) ∧ va_F (zA g) st t
abbrev zPc (g : zG) (h : GH) (vs : List Value) : Array Value → State → Prop := va_Pc vs (fun U => zK g U ∧ zH g h U.heap)
/-- the contract: from ghost heap h, with arguments vs, y returns, and post holds of answer and new ghost heap -/
def zMet (l : Launch) (y : MethodName) (cc : ByteArray) (mL : Nat) (ret : Option FieldType) (d mc ms : Nat) (vs : List Value) (g : zG) (h : GH) (post : Option Value → GH → Prop) : Prop :=
  Met l y (ws_ y cc mL ret) (zrm d mc ms) (zPc g h vs) (zQc g post) mc ms (zA g)
/-- the contract of a method that may throw: px of the class thrown -/
def zMex (l : Launch) (y : MethodName) (cc : ByteArray) (mL : Nat) (ret : Option FieldType) (d mc ms : Nat) (vs : List Value) (g : zG) (h : GH) (post : Option Value → GH → Prop) (px : String → GH → Prop) : Prop :=
  vx_Met l y (ws_ y cc mL ret) (zrm d mc ms) (zPc g h vs) (zQc g post) (zXC g px) mc ms (zA g)
def zL (ls : Array Slot) (nL : Nat) (L : List (Option Value)) : Prop := ls.size = nL ∧ lv_wf ls ∧ ∀ (i : Nat) (v : Value), L[i]? = some (some v) → ls[i]? = some (Slot.val v)
def zWw (C : ZC) (H : Heap) (locs : List Loc) (cells slots : Nat) (f : JFrame) : Prop := W C.1 C.2.1 C.2.2.1 C.2.2.2.1 C.2.2.2.2.1 C.2.2.2.2.2.1 C.2.2.2.2.2.2.1 C.2.2.2.2.2.2.2.1 C.2.2.2.2.2.2.2.2.1 C.2.2.2.2.2.2.2.2.2.1 H locs cells slots C.2.2.2.2.2.2.2.2.2.2.2 f
/-- at pc, with the ghost heap in Φ, at most k cells and n slots made, locals L, stack st: the method comes to its end -/
def ZP (C : ZC) (nL : Nat) (Φ : GH → Prop) (k n : Nat) (L : List (Option Value)) (pc : Nat) (st : List Value) : Prop :=
  ∀ (h : GH) (H : Heap) (locs : List Loc) (cells slots : Nat) (ls : Array Slot), Φ h → zH C.2.2.2.2.2.2.2.2.2.2.1 h H → va_S (zA C.2.2.2.2.2.2.2.2.2.2.1) C.2.2.2.2.1.heap H locs → cells ≤ k → slots ≤ n → zL ls nL L → zWw C H locs cells slots (F0 C.2.2.2.2.2.1 pc ls st)
/-- the fixed facts of a walk -/
def zX (C : ZC) (cc : ByteArray) (own : String) (nL : Nat) (ret : Option FieldType) (d mc ms : Nat) (post : Option Value → GH → Prop) : Prop :=
  C.1.tables.exec = Jvm.exec ∧ C.2.2.2.2.2.2.2.2.2.1.code = cc ∧ C.2.2.2.2.2.2.2.2.2.1.maxLocals = nL ∧ C.2.2.2.2.1.vm.findClass own = some C.2.2.2.2.2.1.cls ∧ (∀ w ∈ lw_all, w.before C.2.2.2.2.2.2.1 C.2.2.2.2.1 = true) ∧
  C.2.2.2.2.2.2.2.2.1.sig.returnType = ret ∧ C.2.2.2.2.2.2.2.2.1.locks = false ∧ zK C.2.2.2.2.2.2.2.2.2.2.1 C.2.2.2.2.1 ∧ C.2.2.2.1 = zrm d mc ms ∧
  (∀ H locs cells slots f, W C.1 C.2.1 C.2.2.1 C.2.2.2.1 C.2.2.2.2.1 C.2.2.2.2.2.1 C.2.2.2.2.2.2.1 C.2.2.2.2.2.2.2.1 C.2.2.2.2.2.2.2.2.1 C.2.2.2.2.2.2.2.2.2.1 H locs cells slots (MQ C.2.2.2.2.2.2.2.1 (zQc C.2.2.2.2.2.2.2.2.2.2.1 post) C.2.2.2.2.2.2.1 C.2.2.2.2.1 mc ms (zA C.2.2.2.2.2.2.2.2.2.2.1)) f → zWw C H locs cells slots f)
/-- the walk's book -/
abbrev zg (C : ZC) : zG := C.2.2.2.2.2.2.2.2.2.2.1
end ZBASE
