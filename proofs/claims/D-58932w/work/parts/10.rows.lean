/-! ROWS of the walk: ints, locals, stack, branches, returns -/
section ZROWS
variable {C : ZC} {cc : ByteArray} {own : String} {nL : Nat} {ret : Option FieldType} {d mc ms : Nat} {post : Option Value → GH → Prop} {Φ : GH → Prop} {k n : Nat} {L : List (Option Value)} {pc pc' : Nat} {st : List Value}
theorem ZP.mono {k' n' : Nat} (hk : k ≤ k') (hn : n ≤ n') (kk : ZP C nL Φ k' n' L pc st) : ZP C nL Φ k n L pc st :=
  fun h H locs cells slots ls h1 h2 h3 h4 h5 h6 => kk h H locs cells slots ls h1 h2 h3 (Nat.le_trans h4 hk) (Nat.le_trans h5 hn) h6
theorem ZP.imp {Φ' : GH → Prop} (hi : ∀ h, Φ h → Φ' h) (kk : ZP C nL Φ' k n L pc st) : ZP C nL Φ k n L pc st :=
  fun h H locs cells slots ls h1 h2 h3 h4 h5 h6 => kk h H locs cells slots ls (hi h h1) h2 h3 h4 h5 h6
theorem ZP.each (kk : ∀ h, Φ h → ZP C nL (fun x => x = h) k n L pc st) : ZP C nL Φ k n L pc st :=
  fun h H locs cells slots ls h1 h2 h3 h4 h5 h6 => kk h h1 h H locs cells slots ls rfl h2 h3 h4 h5 h6
theorem ZP.fact {P : Prop} (hp : ∀ h, Φ h → P) (kk : P → ZP C nL Φ k n L pc st) : ZP C nL Φ k n L pc st :=
  fun h H locs cells slots ls h1 h2 h3 h4 h5 h6 => kk (hp h h1) h H locs cells slots ls h1 h2 h3 h4 h5 h6
/-- fewer known locals -/
def zle : List (Option Value) → List (Option Value) → Prop
  | [], _ => True
  | none :: a, _ :: b => zle a b
  | none :: a, [] => zle a []
  | some v :: a, some w :: b => v = w ∧ zle a b
  | some _ :: _, _ => False
theorem zle_at : ∀ {L' L : List (Option Value)}, zle L' L → ∀ (i : Nat) (v : Value), L'[i]? = some (some v) → L[i]? = some (some v)
  | [], _, _, i, v, h => by simp at h
  | none :: a, x :: b, hz, 0, v, h => by simp at h
  | none :: a, x :: b, hz, i + 1, v, h => by
    simp only [List.getElem?_cons_succ] at h ⊢
    exact zle_at (L' := a) (L := b) hz i v h
  | none :: a, [], hz, 0, v, h => by simp at h
  | none :: a, [], hz, i + 1, v, h => by
    simp only [List.getElem?_cons_succ] at h
    have := zle_at (L' := a) (L := []) hz i v h
    simp at this
  | some w :: a, some x :: b, hz, 0, v, h => by
    obtain ⟨rfl, _⟩ := hz
    simpa using h
  | some w :: a, some x :: b, hz, i + 1, v, h => by
    simp only [List.getElem?_cons_succ] at h ⊢
    exact zle_at (L' := a) (L := b) hz.2 i v h
  | some _ :: _, none :: _, hz, _, _, _ => hz.elim
  | some _ :: _, [], hz, _, _, _ => hz.elim
theorem ZP.wk {L' : List (Option Value)} (hz : zle L' L) (kk : ZP C nL Φ k n L' pc st) : ZP C nL Φ k n L pc st :=
  fun h H locs cells slots ls h1 h2 h3 h4 h5 h6 => kk h H locs cells slots ls h1 h2 h3 h4 h5 ⟨h6.1, h6.2.1, fun i v hv => h6.2.2 i v (zle_at hz i v hv)⟩
def zp (L : List (Option Value)) : List (Nat × Value) := (List.range L.length).filterMap fun i => (L.getD i none).map fun v => (i, v)
theorem mem_zp {L : List (Option Value)} {i : Nat} {v : Value} : (i, v) ∈ zp L ↔ L[i]? = some (some v) := by
  unfold zp
  rw [List.mem_filterMap]
  constructor
  · rintro ⟨a, ha, hb⟩
    rw [List.mem_range] at ha
    cases hg : L.getD a none with
    | none => rw [hg] at hb; cases hb
    | some w =>
      rw [hg] at hb
      simp only [Option.map_some, Option.some.injEq, Prod.mk.injEq] at hb
      obtain ⟨rfl, rfl⟩ := hb
      rw [List.getD_eq_getElem?_getD, List.getElem?_eq_getElem ha] at hg
      rw [List.getElem?_eq_getElem ha]
      simpa using hg
  · intro h
    have hlt : i < L.length := (List.getElem?_eq_some_iff.mp h).1
    refine ⟨i, List.mem_range.mpr hlt, ?_⟩
    rw [List.getD_eq_getElem?_getD, h]
    rfl
theorem zL.has {ls : Array Slot} (h : zL ls nL L) : lv_has ls nL (zp L) := ⟨h.1, h.2.1, fun q hq => h.2.2 q.1 q.2 (mem_zp.mp hq)⟩
/-- the place ahead of i holds no long, no double -/
def zc1 (L : List (Option Value)) : Nat → Bool
  | 0 => true
  | j + 1 => match L[j]? with
    | some (some w) => w.category == 1
    | _ => true
theorem zL.stored {ls' : Array Slot} {i : Nat} {v : Value} (hc : zc1 L i = true) (h : lv_has ls' nL ((i, v) :: (zp L).filter (fun q => !(q.1 == i) && !(q.1 + 1 == i && q.2.category == 2)))) : zL ls' nL (L.set i (some v)) := by
  refine ⟨h.1, h.2.1, fun j w hj => ?_⟩
  by_cases hji : j = i
  · subst hji
    have hlt : j < (L.set j (some v)).length := (List.getElem?_eq_some_iff.mp hj).1
    rw [List.length_set] at hlt
    rw [List.getElem?_set_self hlt] at hj
    cases hj
    exact h.2.2 (j, v) List.mem_cons_self
  · rw [List.getElem?_set_ne (fun e => hji e.symm)] at hj
    refine h.2.2 (j, w) (List.mem_cons_of_mem _ (List.mem_filter.mpr ⟨mem_zp.mpr hj, ?_⟩))
    have h1 : (j == i) = false := by simpa using hji
    simp only [h1, Bool.not_false, Bool.true_and, Bool.not_eq_true', Bool.and_eq_false_iff]
    by_cases h2 : j + 1 = i
    · subst h2
      right
      have hc : (match L[j]? with
        | some (some w) => w.category == 1
        | _ => true) = true := hc
      rw [hj] at hc
      have hc : w.category = 1 := by simpa using hc
      rw [hc]
      rfl
    · left
      simpa using h2
theorem zL.of_args {vs : List Value} {ls : Array Slot} (h : lv_has ls nL (lv_args 0 vs)) (hm : ∀ i v, L[i]? = some (some v) → (i, v) ∈ lv_args 0 vs) : zL ls nL L := ⟨h.1, h.2.1, fun i v hi => h.2.2 (i, v) (hm i v hi)⟩
theorem z_iconst (X : zX C cc own nL ret d mc ms post) {z : Int} (hd : decode cc pc = .ok (.iconst z, 1)) (hn : pc + 1 = pc') (kk : ZP C nL Φ k n L pc' (vI z :: st)) : ZP C nL Φ k n L pc (st) := by
  obtain ⟨p, l, e, R, s, m, args, below, meth, c, g, Q⟩ := C
  obtain ⟨hx, hb, hml, hown, hts, hret, hlk, hK, hR, hQ⟩ := X
  subst hn
  intro h H locs cells slots ls h1 h2 h3 h4 h5 h6
  refine lv_iconst hx hb hd rfl ?_
  exact kk h H locs cells slots ls h1 h2 h3 h4 h5 h6
theorem z_bipush (X : zX C cc own nL ret d mc ms post) {z : Int} (hd : decode cc pc = .ok (.bipush z, 2)) (hn : pc + 2 = pc') (hz : (Int8.ofInt z).toInt32 = jI z) (kk : ZP C nL Φ k n L pc' (vI z :: st)) : ZP C nL Φ k n L pc (st) := by
  obtain ⟨p, l, e, R, s, m, args, below, meth, c, g, Q⟩ := C
  obtain ⟨hx, hb, hml, hown, hts, hret, hlk, hK, hR, hQ⟩ := X
  subst hn
  intro h H locs cells slots ls h1 h2 h3 h4 h5 h6
  refine lv_bipush hx hb hd hz ?_
  exact kk h H locs cells slots ls h1 h2 h3 h4 h5 h6
theorem z_sipush (X : zX C cc own nL ret d mc ms post) {z : Int} (hd : decode cc pc = .ok (.sipush z, 3)) (hn : pc + 3 = pc') (hz : (Int16.ofInt z).toInt32 = jI z) (kk : ZP C nL Φ k n L pc' (vI z :: st)) : ZP C nL Φ k n L pc (st) := by
  obtain ⟨p, l, e, R, s, m, args, below, meth, c, g, Q⟩ := C
  obtain ⟨hx, hb, hml, hown, hts, hret, hlk, hK, hR, hQ⟩ := X
  subst hn
  intro h H locs cells slots ls h1 h2 h3 h4 h5 h6
  refine lv_sipush hx hb hd hz ?_
  exact kk h H locs cells slots ls h1 h2 h3 h4 h5 h6
theorem z_ldc (X : zX C cc own nL ret d mc ms post) {i : Nat} {v : Int32} {z : Int} (hq : Cond.constant own i v ∈ lw_all) (hz : v = jI z) (hd : decode cc pc = .ok (.ldc i, 2)) (hn : pc + 2 = pc') (kk : ZP C nL Φ k n L pc' (vI z :: st)) : ZP C nL Φ k n L pc (st) := by
  obtain ⟨p, l, e, R, s, m, args, below, meth, c, g, Q⟩ := C
  obtain ⟨hx, hb, hml, hown, hts, hret, hlk, hK, hR, hQ⟩ := X
  subst hn
  intro h H locs cells slots ls h1 h2 h3 h4 h5 h6
  subst hz
  refine lv_ldc hx hb hown (hts _ hq) hd ?_
  exact kk h H locs cells slots ls h1 h2 h3 h4 h5 h6
theorem z_iload_n (X : zX C cc own nL ret d mc ms post) {a : Int} {i : Fin 4} (hd : decode cc pc = .ok (.iload_n i, 1)) (hn : pc + 1 = pc') (hl : L[(i : Nat)]? = some (some (vI a))) (kk : ZP C nL Φ k n L pc' (vI a :: st)) : ZP C nL Φ k n L pc (st) := by
  obtain ⟨p, l, e, R, s, m, args, below, meth, c, g, Q⟩ := C
  obtain ⟨hx, hb, hml, hown, hts, hret, hlk, hK, hR, hQ⟩ := X
  subst hn
  intro h H locs cells slots ls h1 h2 h3 h4 h5 h6
  refine lv_iload_n hx hb hd rfl (h6.2.2 _ _ hl) ?_
  exact kk h H locs cells slots ls h1 h2 h3 h4 h5 h6
theorem z_iload (X : zX C cc own nL ret d mc ms post) {a : Int} {i : Nat} (hd : decode cc pc = .ok (.iload i, 2)) (hn : pc + 2 = pc') (hl : L[i]? = some (some (vI a))) (kk : ZP C nL Φ k n L pc' (vI a :: st)) : ZP C nL Φ k n L pc (st) := by
  obtain ⟨p, l, e, R, s, m, args, below, meth, c, g, Q⟩ := C
  obtain ⟨hx, hb, hml, hown, hts, hret, hlk, hK, hR, hQ⟩ := X
  subst hn
  intro h H locs cells slots ls h1 h2 h3 h4 h5 h6
  refine lv_iload hx hb hd (h6.2.2 _ _ hl) ?_
  exact kk h H locs cells slots ls h1 h2 h3 h4 h5 h6
theorem z_aload_n (X : zX C cc own nL ret d mc ms post) {a : Nat} {i : Fin 4} (hd : decode cc pc = .ok (.aload_n i, 1)) (hn : pc + 1 = pc') (hl : L[(i : Nat)]? = some (some (vR a))) (kk : ZP C nL Φ k n L pc' (vR a :: st)) : ZP C nL Φ k n L pc (st) := by
  obtain ⟨p, l, e, R, s, m, args, below, meth, c, g, Q⟩ := C
  obtain ⟨hx, hb, hml, hown, hts, hret, hlk, hK, hR, hQ⟩ := X
  subst hn
  intro h H locs cells slots ls h1 h2 h3 h4 h5 h6
  refine lv_aload_n hx hb hd rfl (h6.2.2 _ _ hl) ?_
  exact kk h H locs cells slots ls h1 h2 h3 h4 h5 h6
theorem z_aload (X : zX C cc own nL ret d mc ms post) {a : Nat} {i : Nat} (hd : decode cc pc = .ok (.aload i, 2)) (hn : pc + 2 = pc') (hl : L[i]? = some (some (vR a))) (kk : ZP C nL Φ k n L pc' (vR a :: st)) : ZP C nL Φ k n L pc (st) := by
  obtain ⟨p, l, e, R, s, m, args, below, meth, c, g, Q⟩ := C
  obtain ⟨hx, hb, hml, hown, hts, hret, hlk, hK, hR, hQ⟩ := X
  subst hn
  intro h H locs cells slots ls h1 h2 h3 h4 h5 h6
  refine lv_aload hx hb hd (h6.2.2 _ _ hl) ?_
  exact kk h H locs cells slots ls h1 h2 h3 h4 h5 h6
theorem z_aloadN_n (X : zX C cc own nL ret d mc ms post) {i : Fin 4} (hd : decode cc pc = .ok (.aload_n i, 1)) (hn : pc + 1 = pc') (hl : L[(i : Nat)]? = some (some Value.null)) (kk : ZP C nL Φ k n L pc' (Value.null :: st)) : ZP C nL Φ k n L pc (st) := by
  obtain ⟨p, l, e, R, s, m, args, below, meth, c, g, Q⟩ := C
  obtain ⟨hx, hb, hml, hown, hts, hret, hlk, hK, hR, hQ⟩ := X
  subst hn
  intro h H locs cells slots ls h1 h2 h3 h4 h5 h6
  refine lv_aload_nN hx hb hd rfl (h6.2.2 _ _ hl) ?_
  exact kk h H locs cells slots ls h1 h2 h3 h4 h5 h6
theorem z_aloadN (X : zX C cc own nL ret d mc ms post) {i : Nat} (hd : decode cc pc = .ok (.aload i, 2)) (hn : pc + 2 = pc') (hl : L[i]? = some (some Value.null)) (kk : ZP C nL Φ k n L pc' (Value.null :: st)) : ZP C nL Φ k n L pc (st) := by
  obtain ⟨p, l, e, R, s, m, args, below, meth, c, g, Q⟩ := C
  obtain ⟨hx, hb, hml, hown, hts, hret, hlk, hK, hR, hQ⟩ := X
  subst hn
  intro h H locs cells slots ls h1 h2 h3 h4 h5 h6
  refine lv_aloadN hx hb hd (h6.2.2 _ _ hl) ?_
  exact kk h H locs cells slots ls h1 h2 h3 h4 h5 h6
theorem z_istore_n (X : zX C cc own nL ret d mc ms post) {a : Int} {i : Fin 4} (hd : decode cc pc = .ok (.istore_n i, 1)) (hn : pc + 1 = pc') (hi : (i : Nat) < nL) (hc : zc1 L (i : Nat) = true) (kk : ZP C nL Φ k n (L.set (i : Nat) (some (vI a))) pc' st) : ZP C nL Φ k n L pc (vI a :: st) := by
  obtain ⟨p, l, e, R, s, m, args, below, meth, c, g, Q⟩ := C
  obtain ⟨hx, hb, hml, hown, hts, hret, hlk, hK, hR, hQ⟩ := X
  subst hn
  intro h H locs cells slots ls h1 h2 h3 h4 h5 h6
  exact lv_istore_n hx hb hd rfl h6.has hi rfl (fun ls' hl => kk h H locs cells slots ls' h1 h2 h3 h4 h5 (zL.stored hc hl))
theorem z_istore (X : zX C cc own nL ret d mc ms post) {a : Int} {i : Nat} (hd : decode cc pc = .ok (.istore i, 2)) (hn : pc + 2 = pc') (hi : i < nL) (hc : zc1 L i = true) (kk : ZP C nL Φ k n (L.set i (some (vI a))) pc' st) : ZP C nL Φ k n L pc (vI a :: st) := by
  obtain ⟨p, l, e, R, s, m, args, below, meth, c, g, Q⟩ := C
  obtain ⟨hx, hb, hml, hown, hts, hret, hlk, hK, hR, hQ⟩ := X
  subst hn
  intro h H locs cells slots ls h1 h2 h3 h4 h5 h6
  exact lv_istore hx hb hd h6.has hi rfl (fun ls' hl => kk h H locs cells slots ls' h1 h2 h3 h4 h5 (zL.stored hc hl))
theorem z_astore_n (X : zX C cc own nL ret d mc ms post) {a : Nat} {i : Fin 4} (hd : decode cc pc = .ok (.astore_n i, 1)) (hn : pc + 1 = pc') (hi : (i : Nat) < nL) (hc : zc1 L (i : Nat) = true) (kk : ZP C nL Φ k n (L.set (i : Nat) (some (vR a))) pc' st) : ZP C nL Φ k n L pc (vR a :: st) := by
  obtain ⟨p, l, e, R, s, m, args, below, meth, c, g, Q⟩ := C
  obtain ⟨hx, hb, hml, hown, hts, hret, hlk, hK, hR, hQ⟩ := X
  subst hn
  intro h H locs cells slots ls h1 h2 h3 h4 h5 h6
  exact lv_astore_n hx hb hd rfl h6.has hi rfl (fun ls' hl => kk h H locs cells slots ls' h1 h2 h3 h4 h5 (zL.stored hc hl))
theorem z_astore (X : zX C cc own nL ret d mc ms post) {a : Nat} {i : Nat} (hd : decode cc pc = .ok (.astore i, 2)) (hn : pc + 2 = pc') (hi : i < nL) (hc : zc1 L i = true) (kk : ZP C nL Φ k n (L.set i (some (vR a))) pc' st) : ZP C nL Φ k n L pc (vR a :: st) := by
  obtain ⟨p, l, e, R, s, m, args, below, meth, c, g, Q⟩ := C
  obtain ⟨hx, hb, hml, hown, hts, hret, hlk, hK, hR, hQ⟩ := X
  subst hn
  intro h H locs cells slots ls h1 h2 h3 h4 h5 h6
  exact lv_astore hx hb hd h6.has hi rfl (fun ls' hl => kk h H locs cells slots ls' h1 h2 h3 h4 h5 (zL.stored hc hl))
theorem z_iinc (X : zX C cc own nL ret d mc ms post) {a z : Int} {i : Nat} (hd : decode cc pc = .ok (.iinc i z, 3)) (hn : pc + 3 = pc') (hi : i < nL) (hl : L[i]? = some (some (vI a))) (hc : zc1 L i = true) (kk : ZP C nL Φ k n (L.set i (some (vI (a + z)))) pc' st) : ZP C nL Φ k n L pc st := by
  obtain ⟨p, l, e, R, s, m, args, below, meth, c, g, Q⟩ := C
  obtain ⟨hx, hb, hml, hown, hts, hret, hlk, hK, hR, hQ⟩ := X
  subst hn
  intro h H locs cells slots ls h1 h2 h3 h4 h5 h6
  obtain ⟨j, hj⟩ := List.getElem?_of_mem (mem_zp.mpr hl)
  exact lv_iinc (v := jI (a + z)) hx hb hd h6.has hj (by rw [jI_ofInt, jI_add]) hi rfl (fun ls' hl => kk h H locs cells slots ls' h1 h2 h3 h4 h5 (zL.stored hc hl))
theorem z_dup (X : zX C cc own nL ret d mc ms post) {va : Value} (hva : va.category = 1) (hd : decode cc pc = .ok (.dup, 1)) (hn : pc + 1 = pc') (kk : ZP C nL Φ k n L pc' (va :: va :: st)) : ZP C nL Φ k n L pc (va :: st) := by
  obtain ⟨p, l, e, R, s, m, args, below, meth, c, g, Q⟩ := C
  obtain ⟨hx, hb, hml, hown, hts, hret, hlk, hK, hR, hQ⟩ := X
  subst hn
  intro h H locs cells slots ls h1 h2 h3 h4 h5 h6
  refine lv_dup hx hb hd hva ?_
  exact kk h H locs cells slots ls h1 h2 h3 h4 h5 h6
theorem z_pop (X : zX C cc own nL ret d mc ms post) {va : Value} (hva : va.category = 1) (hd : decode cc pc = .ok (.pop, 1)) (hn : pc + 1 = pc') (kk : ZP C nL Φ k n L pc' (st)) : ZP C nL Φ k n L pc (va :: st) := by
  obtain ⟨p, l, e, R, s, m, args, below, meth, c, g, Q⟩ := C
  obtain ⟨hx, hb, hml, hown, hts, hret, hlk, hK, hR, hQ⟩ := X
  subst hn
  intro h H locs cells slots ls h1 h2 h3 h4 h5 h6
  refine lv_pop hx hb hd hva ?_
  exact kk h H locs cells slots ls h1 h2 h3 h4 h5 h6
theorem z_dup_x1 (X : zX C cc own nL ret d mc ms post) {va vb : Value} (hva : va.category = 1) (hvb : vb.category = 1) (hd : decode cc pc = .ok (.dup_x1, 1)) (hn : pc + 1 = pc') (kk : ZP C nL Φ k n L pc' (va :: vb :: va :: st)) : ZP C nL Φ k n L pc (va :: vb :: st) := by
  obtain ⟨p, l, e, R, s, m, args, below, meth, c, g, Q⟩ := C
  obtain ⟨hx, hb, hml, hown, hts, hret, hlk, hK, hR, hQ⟩ := X
  subst hn
  intro h H locs cells slots ls h1 h2 h3 h4 h5 h6
  refine lv_dup_x1 hx hb hd hva hvb ?_
  exact kk h H locs cells slots ls h1 h2 h3 h4 h5 h6
theorem z_dup_x2 (X : zX C cc own nL ret d mc ms post) {va vb vd : Value} (hva : va.category = 1) (hvb : vb.category = 1) (hvd : vd.category = 1) (hd : decode cc pc = .ok (.dup_x2, 1)) (hn : pc + 1 = pc') (kk : ZP C nL Φ k n L pc' (va :: vb :: vd :: va :: st)) : ZP C nL Φ k n L pc (va :: vb :: vd :: st) := by
  obtain ⟨p, l, e, R, s, m, args, below, meth, c, g, Q⟩ := C
  obtain ⟨hx, hb, hml, hown, hts, hret, hlk, hK, hR, hQ⟩ := X
  subst hn
  intro h H locs cells slots ls h1 h2 h3 h4 h5 h6
  refine lv_dup_x2 hx hb hd hva hvb hvd ?_
  exact kk h H locs cells slots ls h1 h2 h3 h4 h5 h6
theorem z_dup2 (X : zX C cc own nL ret d mc ms post) {va vb : Value} (hva : va.category = 1) (hvb : vb.category = 1) (hd : decode cc pc = .ok (.dup2, 1)) (hn : pc + 1 = pc') (kk : ZP C nL Φ k n L pc' (va :: vb :: va :: vb :: st)) : ZP C nL Φ k n L pc (va :: vb :: st) := by
  obtain ⟨p, l, e, R, s, m, args, below, meth, c, g, Q⟩ := C
  obtain ⟨hx, hb, hml, hown, hts, hret, hlk, hK, hR, hQ⟩ := X
  subst hn
  intro h H locs cells slots ls h1 h2 h3 h4 h5 h6
  refine lv_dup2_11 hx hb hd hva hvb ?_
  exact kk h H locs cells slots ls h1 h2 h3 h4 h5 h6
theorem z_iadd (X : zX C cc own nL ret d mc ms post) {a b : Int} (hd : decode cc pc = .ok (.iadd, 1)) (hn : pc + 1 = pc') (kk : ZP C nL Φ k n L pc' (vI (a + b) :: st)) : ZP C nL Φ k n L pc (vI b :: vI a :: st) := by
  obtain ⟨p, l, e, R, s, m, args, below, meth, c, g, Q⟩ := C
  obtain ⟨hx, hb, hml, hown, hts, hret, hlk, hK, hR, hQ⟩ := X
  subst hn
  intro h H locs cells slots ls h1 h2 h3 h4 h5 h6
  refine lv_iadd hx hb hd ?_
  rw [jI_add]
  exact kk h H locs cells slots ls h1 h2 h3 h4 h5 h6
theorem z_isub (X : zX C cc own nL ret d mc ms post) {a b : Int} (hd : decode cc pc = .ok (.isub, 1)) (hn : pc + 1 = pc') (kk : ZP C nL Φ k n L pc' (vI (a - b) :: st)) : ZP C nL Φ k n L pc (vI b :: vI a :: st) := by
  obtain ⟨p, l, e, R, s, m, args, below, meth, c, g, Q⟩ := C
  obtain ⟨hx, hb, hml, hown, hts, hret, hlk, hK, hR, hQ⟩ := X
  subst hn
  intro h H locs cells slots ls h1 h2 h3 h4 h5 h6
  refine lv_isub hx hb hd ?_
  rw [jI_sub]
  exact kk h H locs cells slots ls h1 h2 h3 h4 h5 h6
theorem z_imul (X : zX C cc own nL ret d mc ms post) {a b : Int} (hd : decode cc pc = .ok (.imul, 1)) (hn : pc + 1 = pc') (kk : ZP C nL Φ k n L pc' (vI (a * b) :: st)) : ZP C nL Φ k n L pc (vI b :: vI a :: st) := by
  obtain ⟨p, l, e, R, s, m, args, below, meth, c, g, Q⟩ := C
  obtain ⟨hx, hb, hml, hown, hts, hret, hlk, hK, hR, hQ⟩ := X
  subst hn
  intro h H locs cells slots ls h1 h2 h3 h4 h5 h6
  refine lv_imul hx hb hd ?_
  rw [jI_mul]
  exact kk h H locs cells slots ls h1 h2 h3 h4 h5 h6
theorem z_ineg (X : zX C cc own nL ret d mc ms post) {a : Int} (hd : decode cc pc = .ok (.ineg, 1)) (hn : pc + 1 = pc') (kk : ZP C nL Φ k n L pc' (vI (-a) :: st)) : ZP C nL Φ k n L pc (vI a :: st) := by
  obtain ⟨p, l, e, R, s, m, args, below, meth, c, g, Q⟩ := C
  obtain ⟨hx, hb, hml, hown, hts, hret, hlk, hK, hR, hQ⟩ := X
  subst hn
  intro h H locs cells slots ls h1 h2 h3 h4 h5 h6
  refine lv_ineg hx hb hd ?_
  rw [jI_neg]
  exact kk h H locs cells slots ls h1 h2 h3 h4 h5 h6
theorem z_idiv (X : zX C cc own nL ret d mc ms post) {a b : Int} (ha : rng a) (hb1 : 0 < b ∧ b ≤ 2147483647) (hd : decode cc pc = .ok (.idiv, 1)) (hn : pc + 1 = pc') (kk : ZP C nL Φ k n L pc' (vI (a.tdiv b) :: st)) : ZP C nL Φ k n L pc (vI b :: vI a :: st) := by
  obtain ⟨p, l, e, R, s, m, args, below, meth, c, g, Q⟩ := C
  obtain ⟨hx, hb, hml, hown, hts, hret, hlk, hK, hR, hQ⟩ := X
  subst hn
  intro h H locs cells slots ls h1 h2 h3 h4 h5 h6
  refine lv_idiv hx hb hd (jI_ne ⟨by omega, hb1.2⟩ (by omega)) ?_
  rw [jI_div ha ⟨by omega, hb1.2⟩ hb1.1]
  exact kk h H locs cells slots ls h1 h2 h3 h4 h5 h6
theorem z_irem (X : zX C cc own nL ret d mc ms post) {a b : Int} (ha : rng a) (hb1 : 0 < b ∧ b ≤ 2147483647) (hd : decode cc pc = .ok (.irem, 1)) (hn : pc + 1 = pc') (kk : ZP C nL Φ k n L pc' (vI (a.tmod b) :: st)) : ZP C nL Φ k n L pc (vI b :: vI a :: st) := by
  obtain ⟨p, l, e, R, s, m, args, below, meth, c, g, Q⟩ := C
  obtain ⟨hx, hb, hml, hown, hts, hret, hlk, hK, hR, hQ⟩ := X
  subst hn
  intro h H locs cells slots ls h1 h2 h3 h4 h5 h6
  refine lv_irem hx hb hd (jI_ne ⟨by omega, hb1.2⟩ (by omega)) ?_
  rw [jI_rem ha ⟨by omega, hb1.2⟩ hb1.1]
  exact kk h H locs cells slots ls h1 h2 h3 h4 h5 h6
theorem z_idivp (X : zX C cc own nL ret d mc ms post) {a b : Int} (ha : 0 ≤ a ∧ a ≤ 2147483647) (hb1 : 0 < b ∧ b ≤ 2147483647) (hd : decode cc pc = .ok (.idiv, 1)) (hn : pc + 1 = pc') (kk : ZP C nL Φ k n L pc' (vI (a / b) :: st)) : ZP C nL Φ k n L pc (vI b :: vI a :: st) := by
  obtain ⟨p, l, e, R, s, m, args, below, meth, c, g, Q⟩ := C
  obtain ⟨hx, hb, hml, hown, hts, hret, hlk, hK, hR, hQ⟩ := X
  subst hn
  intro h H locs cells slots ls h1 h2 h3 h4 h5 h6
  refine lv_idiv hx hb hd (jI_ne ⟨by omega, hb1.2⟩ (by omega)) ?_
  rw [jI_div ⟨by omega, ha.2⟩ ⟨by omega, hb1.2⟩ hb1.1, tdiv_pos ha.1]
  exact kk h H locs cells slots ls h1 h2 h3 h4 h5 h6
theorem z_iremp (X : zX C cc own nL ret d mc ms post) {a b : Int} (ha : 0 ≤ a ∧ a ≤ 2147483647) (hb1 : 0 < b ∧ b ≤ 2147483647) (hd : decode cc pc = .ok (.irem, 1)) (hn : pc + 1 = pc') (kk : ZP C nL Φ k n L pc' (vI (a % b) :: st)) : ZP C nL Φ k n L pc (vI b :: vI a :: st) := by
  obtain ⟨p, l, e, R, s, m, args, below, meth, c, g, Q⟩ := C
  obtain ⟨hx, hb, hml, hown, hts, hret, hlk, hK, hR, hQ⟩ := X
  subst hn
  intro h H locs cells slots ls h1 h2 h3 h4 h5 h6
  refine lv_irem hx hb hd (jI_ne ⟨by omega, hb1.2⟩ (by omega)) ?_
  rw [jI_rem ⟨by omega, ha.2⟩ ⟨by omega, hb1.2⟩ hb1.1, tmod_pos ha.1]
  exact kk h H locs cells slots ls h1 h2 h3 h4 h5 h6
theorem z_i2c (X : zX C cc own nL ret d mc ms post) {a : Int} (ha : 0 ≤ a ∧ a < 65536) (hd : decode cc pc = .ok (.i2c, 1)) (hn : pc + 1 = pc') (kk : ZP C nL Φ k n L pc' (vI a :: st)) : ZP C nL Φ k n L pc (vI a :: st) := by
  obtain ⟨p, l, e, R, s, m, args, below, meth, c, g, Q⟩ := C
  obtain ⟨hx, hb, hml, hown, hts, hret, hlk, hK, hR, hQ⟩ := X
  subst hn
  intro h H locs cells slots ls h1 h2 h3 h4 h5 h6
  refine lv_i2c hx hb hd (jI_char ha) ?_
  exact kk h H locs cells slots ls h1 h2 h3 h4 h5 h6
theorem z_ishl (X : zX C cc own nL ret d mc ms post) {a b r : Int} (hz : jI a <<< (jI b &&& 31) = jI r) (hd : decode cc pc = .ok (.ishl, 1)) (hn : pc + 1 = pc') (kk : ZP C nL Φ k n L pc' (vI r :: st)) : ZP C nL Φ k n L pc (vI b :: vI a :: st) := by
  obtain ⟨p, l, e, R, s, m, args, below, meth, c, g, Q⟩ := C
  obtain ⟨hx, hb, hml, hown, hts, hret, hlk, hK, hR, hQ⟩ := X
  subst hn
  intro h H locs cells slots ls h1 h2 h3 h4 h5 h6
  refine lv_ishl hx hb hd ?_
  rw [hz]
  exact kk h H locs cells slots ls h1 h2 h3 h4 h5 h6
theorem z_iand (X : zX C cc own nL ret d mc ms post) {a b r : Int} (hz : jI a &&& jI b = jI r) (hd : decode cc pc = .ok (.iand, 1)) (hn : pc + 1 = pc') (kk : ZP C nL Φ k n L pc' (vI r :: st)) : ZP C nL Φ k n L pc (vI b :: vI a :: st) := by
  obtain ⟨p, l, e, R, s, m, args, below, meth, c, g, Q⟩ := C
  obtain ⟨hx, hb, hml, hown, hts, hret, hlk, hK, hR, hQ⟩ := X
  subst hn
  intro h H locs cells slots ls h1 h2 h3 h4 h5 h6
  refine lv_iand hx hb hd ?_
  rw [hz]
  exact kk h H locs cells slots ls h1 h2 h3 h4 h5 h6
theorem z_ior (X : zX C cc own nL ret d mc ms post) {a b r : Int} (hz : jI a ||| jI b = jI r) (hd : decode cc pc = .ok (.ior, 1)) (hn : pc + 1 = pc') (kk : ZP C nL Φ k n L pc' (vI r :: st)) : ZP C nL Φ k n L pc (vI b :: vI a :: st) := by
  obtain ⟨p, l, e, R, s, m, args, below, meth, c, g, Q⟩ := C
  obtain ⟨hx, hb, hml, hown, hts, hret, hlk, hK, hR, hQ⟩ := X
  subst hn
  intro h H locs cells slots ls h1 h2 h3 h4 h5 h6
  refine lv_ior hx hb hd ?_
  rw [hz]
  exact kk h H locs cells slots ls h1 h2 h3 h4 h5 h6
theorem z_icmp_eq (X : zX C cc own nL ret d mc ms post) {a b : Int} (ha : rng a) (hb2 : rng b) {off : Int} {tgt : Nat} (hd : decode cc pc = .ok (.if_icmp .eq off, 3)) (hn : pc + 3 = pc') (ht : (pc : Int) + off = (tgt : Int)) (kt : a = b → ZP C nL Φ k n L tgt st) (kf : a ≠ b → ZP C nL Φ k n L pc' st) : ZP C nL Φ k n L pc (vI b :: vI a :: st) := by
  obtain ⟨p, l, e, R, s, m, args, below, meth, c, g, Q⟩ := C
  obtain ⟨hx, hb, hml, hown, hts, hret, hlk, hK, hR, hQ⟩ := X
  subst hn
  intro h H locs cells slots ls h1 h2 h3 h4 h5 h6
  refine lv_icmp_eq hx hb hd ht (fun c => ?_) (fun c => ?_)
  · exact kt ((jI_eq ha hb2).mp c) h H locs cells slots ls h1 h2 h3 h4 h5 h6
  · exact kf (fun q => c ((jI_eq ha hb2).mpr q)) h H locs cells slots ls h1 h2 h3 h4 h5 h6
theorem z_if_eq (X : zX C cc own nL ret d mc ms post) {a : Int} (ha : rng a) {off : Int} {tgt : Nat} (hd : decode cc pc = .ok (.ifCond .eq off, 3)) (hn : pc + 3 = pc') (ht : (pc : Int) + off = (tgt : Int)) (kt : a = 0 → ZP C nL Φ k n L tgt st) (kf : a ≠ 0 → ZP C nL Φ k n L pc' st) : ZP C nL Φ k n L pc (vI a :: st) := by
  obtain ⟨p, l, e, R, s, m, args, below, meth, c, g, Q⟩ := C
  obtain ⟨hx, hb, hml, hown, hts, hret, hlk, hK, hR, hQ⟩ := X
  subst hn
  intro h H locs cells slots ls h1 h2 h3 h4 h5 h6
  refine lv_if_eq hx hb hd ht (fun c => ?_) (fun c => ?_)
  · exact kt ((jI_eq0 ha).mp c) h H locs cells slots ls h1 h2 h3 h4 h5 h6
  · exact kf (fun q => c ((jI_eq0 ha).mpr q)) h H locs cells slots ls h1 h2 h3 h4 h5 h6
theorem z_icmp_lt (X : zX C cc own nL ret d mc ms post) {a b : Int} (ha : rng a) (hb2 : rng b) {off : Int} {tgt : Nat} (hd : decode cc pc = .ok (.if_icmp .lt off, 3)) (hn : pc + 3 = pc') (ht : (pc : Int) + off = (tgt : Int)) (kt : a < b → ZP C nL Φ k n L tgt st) (kf : b ≤ a → ZP C nL Φ k n L pc' st) : ZP C nL Φ k n L pc (vI b :: vI a :: st) := by
  obtain ⟨p, l, e, R, s, m, args, below, meth, c, g, Q⟩ := C
  obtain ⟨hx, hb, hml, hown, hts, hret, hlk, hK, hR, hQ⟩ := X
  subst hn
  intro h H locs cells slots ls h1 h2 h3 h4 h5 h6
  refine lv_icmp_lt hx hb hd ht (fun c => ?_) (fun c => ?_)
  · exact kt ((jI_lt ha hb2).mp c) h H locs cells slots ls h1 h2 h3 h4 h5 h6
  · exact kf (Int.not_lt.mp (fun q => c ((jI_lt ha hb2).mpr q))) h H locs cells slots ls h1 h2 h3 h4 h5 h6
theorem z_if_lt (X : zX C cc own nL ret d mc ms post) {a : Int} (ha : rng a) {off : Int} {tgt : Nat} (hd : decode cc pc = .ok (.ifCond .lt off, 3)) (hn : pc + 3 = pc') (ht : (pc : Int) + off = (tgt : Int)) (kt : a < 0 → ZP C nL Φ k n L tgt st) (kf : 0 ≤ a → ZP C nL Φ k n L pc' st) : ZP C nL Φ k n L pc (vI a :: st) := by
  obtain ⟨p, l, e, R, s, m, args, below, meth, c, g, Q⟩ := C
  obtain ⟨hx, hb, hml, hown, hts, hret, hlk, hK, hR, hQ⟩ := X
  subst hn
  intro h H locs cells slots ls h1 h2 h3 h4 h5 h6
  refine lv_if_lt hx hb hd ht (fun c => ?_) (fun c => ?_)
  · exact kt ((jI_lt0 ha).mp c) h H locs cells slots ls h1 h2 h3 h4 h5 h6
  · exact kf (Int.not_lt.mp (fun q => c ((jI_lt0 ha).mpr q))) h H locs cells slots ls h1 h2 h3 h4 h5 h6
theorem z_icmp_ge (X : zX C cc own nL ret d mc ms post) {a b : Int} (ha : rng a) (hb2 : rng b) {off : Int} {tgt : Nat} (hd : decode cc pc = .ok (.if_icmp .ge off, 3)) (hn : pc + 3 = pc') (ht : (pc : Int) + off = (tgt : Int)) (kt : b ≤ a → ZP C nL Φ k n L tgt st) (kf : a < b → ZP C nL Φ k n L pc' st) : ZP C nL Φ k n L pc (vI b :: vI a :: st) := by
  obtain ⟨p, l, e, R, s, m, args, below, meth, c, g, Q⟩ := C
  obtain ⟨hx, hb, hml, hown, hts, hret, hlk, hK, hR, hQ⟩ := X
  subst hn
  intro h H locs cells slots ls h1 h2 h3 h4 h5 h6
  refine lv_icmp_ge hx hb hd ht (fun c => ?_) (fun c => ?_)
  · exact kt ((jI_le hb2 ha).mp c) h H locs cells slots ls h1 h2 h3 h4 h5 h6
  · exact kf (Int.not_le.mp (fun q => c ((jI_le hb2 ha).mpr q))) h H locs cells slots ls h1 h2 h3 h4 h5 h6
theorem z_if_ge (X : zX C cc own nL ret d mc ms post) {a : Int} (ha : rng a) {off : Int} {tgt : Nat} (hd : decode cc pc = .ok (.ifCond .ge off, 3)) (hn : pc + 3 = pc') (ht : (pc : Int) + off = (tgt : Int)) (kt : 0 ≤ a → ZP C nL Φ k n L tgt st) (kf : a < 0 → ZP C nL Φ k n L pc' st) : ZP C nL Φ k n L pc (vI a :: st) := by
  obtain ⟨p, l, e, R, s, m, args, below, meth, c, g, Q⟩ := C
  obtain ⟨hx, hb, hml, hown, hts, hret, hlk, hK, hR, hQ⟩ := X
  subst hn
  intro h H locs cells slots ls h1 h2 h3 h4 h5 h6
  refine lv_if_ge hx hb hd ht (fun c => ?_) (fun c => ?_)
  · exact kt ((jI_ge0 ha).mp c) h H locs cells slots ls h1 h2 h3 h4 h5 h6
  · exact kf (Int.not_le.mp (fun q => c ((jI_ge0 ha).mpr q))) h H locs cells slots ls h1 h2 h3 h4 h5 h6
theorem z_icmp_gt (X : zX C cc own nL ret d mc ms post) {a b : Int} (ha : rng a) (hb2 : rng b) {off : Int} {tgt : Nat} (hd : decode cc pc = .ok (.if_icmp .gt off, 3)) (hn : pc + 3 = pc') (ht : (pc : Int) + off = (tgt : Int)) (kt : b < a → ZP C nL Φ k n L tgt st) (kf : a ≤ b → ZP C nL Φ k n L pc' st) : ZP C nL Φ k n L pc (vI b :: vI a :: st) := by
  obtain ⟨p, l, e, R, s, m, args, below, meth, c, g, Q⟩ := C
  obtain ⟨hx, hb, hml, hown, hts, hret, hlk, hK, hR, hQ⟩ := X
  subst hn
  intro h H locs cells slots ls h1 h2 h3 h4 h5 h6
  refine lv_icmp_gt hx hb hd ht (fun c => ?_) (fun c => ?_)
  · exact kt ((jI_lt hb2 ha).mp c) h H locs cells slots ls h1 h2 h3 h4 h5 h6
  · exact kf (Int.not_lt.mp (fun q => c ((jI_lt hb2 ha).mpr q))) h H locs cells slots ls h1 h2 h3 h4 h5 h6
theorem z_if_gt (X : zX C cc own nL ret d mc ms post) {a : Int} (ha : rng a) {off : Int} {tgt : Nat} (hd : decode cc pc = .ok (.ifCond .gt off, 3)) (hn : pc + 3 = pc') (ht : (pc : Int) + off = (tgt : Int)) (kt : 0 < a → ZP C nL Φ k n L tgt st) (kf : a ≤ 0 → ZP C nL Φ k n L pc' st) : ZP C nL Φ k n L pc (vI a :: st) := by
  obtain ⟨p, l, e, R, s, m, args, below, meth, c, g, Q⟩ := C
  obtain ⟨hx, hb, hml, hown, hts, hret, hlk, hK, hR, hQ⟩ := X
  subst hn
  intro h H locs cells slots ls h1 h2 h3 h4 h5 h6
  refine lv_if_gt hx hb hd ht (fun c => ?_) (fun c => ?_)
  · exact kt ((jI_gt0 ha).mp c) h H locs cells slots ls h1 h2 h3 h4 h5 h6
  · exact kf (Int.not_lt.mp (fun q => c ((jI_gt0 ha).mpr q))) h H locs cells slots ls h1 h2 h3 h4 h5 h6
theorem z_icmp_le (X : zX C cc own nL ret d mc ms post) {a b : Int} (ha : rng a) (hb2 : rng b) {off : Int} {tgt : Nat} (hd : decode cc pc = .ok (.if_icmp .le off, 3)) (hn : pc + 3 = pc') (ht : (pc : Int) + off = (tgt : Int)) (kt : a ≤ b → ZP C nL Φ k n L tgt st) (kf : b < a → ZP C nL Φ k n L pc' st) : ZP C nL Φ k n L pc (vI b :: vI a :: st) := by
  obtain ⟨p, l, e, R, s, m, args, below, meth, c, g, Q⟩ := C
  obtain ⟨hx, hb, hml, hown, hts, hret, hlk, hK, hR, hQ⟩ := X
  subst hn
  intro h H locs cells slots ls h1 h2 h3 h4 h5 h6
  refine lv_icmp_le hx hb hd ht (fun c => ?_) (fun c => ?_)
  · exact kt ((jI_le ha hb2).mp c) h H locs cells slots ls h1 h2 h3 h4 h5 h6
  · exact kf (Int.not_le.mp (fun q => c ((jI_le ha hb2).mpr q))) h H locs cells slots ls h1 h2 h3 h4 h5 h6
theorem z_if_le (X : zX C cc own nL ret d mc ms post) {a : Int} (ha : rng a) {off : Int} {tgt : Nat} (hd : decode cc pc = .ok (.ifCond .le off, 3)) (hn : pc + 3 = pc') (ht : (pc : Int) + off = (tgt : Int)) (kt : a ≤ 0 → ZP C nL Φ k n L tgt st) (kf : 0 < a → ZP C nL Φ k n L pc' st) : ZP C nL Φ k n L pc (vI a :: st) := by
  obtain ⟨p, l, e, R, s, m, args, below, meth, c, g, Q⟩ := C
  obtain ⟨hx, hb, hml, hown, hts, hret, hlk, hK, hR, hQ⟩ := X
  subst hn
  intro h H locs cells slots ls h1 h2 h3 h4 h5 h6
  refine lv_if_le hx hb hd ht (fun c => ?_) (fun c => ?_)
  · exact kt ((jI_le0 ha).mp c) h H locs cells slots ls h1 h2 h3 h4 h5 h6
  · exact kf (Int.not_le.mp (fun q => c ((jI_le0 ha).mpr q))) h H locs cells slots ls h1 h2 h3 h4 h5 h6
theorem z_icmp_ne (X : zX C cc own nL ret d mc ms post) {a b : Int} (ha : rng a) (hb2 : rng b) {off : Int} {tgt : Nat} (hd : decode cc pc = .ok (.if_icmp .ne off, 3)) (hn : pc + 3 = pc') (ht : (pc : Int) + off = (tgt : Int)) (kt : a ≠ b → ZP C nL Φ k n L tgt st) (kf : a = b → ZP C nL Φ k n L pc' st) : ZP C nL Φ k n L pc (vI b :: vI a :: st) := by
  obtain ⟨p, l, e, R, s, m, args, below, meth, c, g, Q⟩ := C
  obtain ⟨hx, hb, hml, hown, hts, hret, hlk, hK, hR, hQ⟩ := X
  subst hn
  intro h H locs cells slots ls h1 h2 h3 h4 h5 h6
  refine lv_icmp_ne hx hb hd ht (fun c => ?_) (fun c => ?_)
  · exact kt (fun q => c ((jI_eq ha hb2).mpr q)) h H locs cells slots ls h1 h2 h3 h4 h5 h6
  · exact kf ((jI_eq ha hb2).mp c) h H locs cells slots ls h1 h2 h3 h4 h5 h6
theorem z_if_ne (X : zX C cc own nL ret d mc ms post) {a : Int} (ha : rng a) {off : Int} {tgt : Nat} (hd : decode cc pc = .ok (.ifCond .ne off, 3)) (hn : pc + 3 = pc') (ht : (pc : Int) + off = (tgt : Int)) (kt : a ≠ 0 → ZP C nL Φ k n L tgt st) (kf : a = 0 → ZP C nL Φ k n L pc' st) : ZP C nL Φ k n L pc (vI a :: st) := by
  obtain ⟨p, l, e, R, s, m, args, below, meth, c, g, Q⟩ := C
  obtain ⟨hx, hb, hml, hown, hts, hret, hlk, hK, hR, hQ⟩ := X
  subst hn
  intro h H locs cells slots ls h1 h2 h3 h4 h5 h6
  refine lv_if_ne hx hb hd ht (fun c => ?_) (fun c => ?_)
  · exact kt (fun q => c ((jI_eq0 ha).mpr q)) h H locs cells slots ls h1 h2 h3 h4 h5 h6
  · exact kf ((jI_eq0 ha).mp c) h H locs cells slots ls h1 h2 h3 h4 h5 h6
theorem z_goto (X : zX C cc own nL ret d mc ms post) {off : Int} {tgt : Nat} (hd : decode cc pc = .ok (.goto off, 3)) (ht : (pc : Int) + off = (tgt : Int)) (kk : ZP C nL Φ k n L tgt st) : ZP C nL Φ k n L pc st := by
  obtain ⟨p, l, e, R, s, m, args, below, meth, c, g, Q⟩ := C
  obtain ⟨hx, hb, hml, hown, hts, hret, hlk, hK, hR, hQ⟩ := X
  intro h H locs cells slots ls h1 h2 h3 h4 h5 h6
  exact lv_goto hx hb hd ht (kk h H locs cells slots ls h1 h2 h3 h4 h5 h6)
theorem z_ifnull_T (X : zX C cc own nL ret d mc ms post) {off : Int} {tgt : Nat} (hd : decode cc pc = .ok (.ifnull off, 3)) (ht : (pc : Int) + off = (tgt : Int)) (kk : ZP C nL Φ k n L tgt st) : ZP C nL Φ k n L pc (Value.null :: st) := by
  obtain ⟨p, l, e, R, s, m, args, below, meth, c, g, Q⟩ := C
  obtain ⟨hx, hb, hml, hown, hts, hret, hlk, hK, hR, hQ⟩ := X
  intro h H locs cells slots ls h1 h2 h3 h4 h5 h6
  exact lv_ifnullN hx hb hd ht (kk h H locs cells slots ls h1 h2 h3 h4 h5 h6)
theorem z_ifnonnull_T (X : zX C cc own nL ret d mc ms post) {a : Nat} {off : Int} {tgt : Nat} (hd : decode cc pc = .ok (.ifnonnull off, 3)) (ht : (pc : Int) + off = (tgt : Int)) (kk : ZP C nL Φ k n L tgt st) : ZP C nL Φ k n L pc (vR a :: st) := by
  obtain ⟨p, l, e, R, s, m, args, below, meth, c, g, Q⟩ := C
  obtain ⟨hx, hb, hml, hown, hts, hret, hlk, hK, hR, hQ⟩ := X
  intro h H locs cells slots ls h1 h2 h3 h4 h5 h6
  exact lv_ifnonnull hx hb hd ht (kk h H locs cells slots ls h1 h2 h3 h4 h5 h6)
theorem z_ifnull_F (X : zX C cc own nL ret d mc ms post) {a : Nat} {off : Int} (hd : decode cc pc = .ok (.ifnull off, 3)) (hn : pc + 3 = pc') (kk : ZP C nL Φ k n L pc' st) : ZP C nL Φ k n L pc (vR a :: st) := by
  obtain ⟨p, l, e, R, s, m, args, below, meth, c, g, Q⟩ := C
  obtain ⟨hx, hb, hml, hown, hts, hret, hlk, hK, hR, hQ⟩ := X
  subst hn
  intro h H locs cells slots ls h1 h2 h3 h4 h5 h6
  exact lv_ifnull hx hb hd (kk h H locs cells slots ls h1 h2 h3 h4 h5 h6)
theorem z_ifnonnull_F (X : zX C cc own nL ret d mc ms post) {off : Int} (hd : decode cc pc = .ok (.ifnonnull off, 3)) (hn : pc + 3 = pc') (kk : ZP C nL Φ k n L pc' st) : ZP C nL Φ k n L pc (Value.null :: st) := by
  obtain ⟨p, l, e, R, s, m, args, below, meth, c, g, Q⟩ := C
  obtain ⟨hx, hb, hml, hown, hts, hret, hlk, hK, hR, hQ⟩ := X
  subst hn
  intro h H locs cells slots ls h1 h2 h3 h4 h5 h6
  exact lv_ifnonnullN hx hb hd (kk h H locs cells slots ls h1 h2 h3 h4 h5 h6)
theorem z_null (X : zX C cc own nL ret d mc ms post) (hd : decode cc pc = .ok (.aconst_null, 1)) (hn : pc + 1 = pc') (kk : ZP C nL Φ k n L pc' (Value.null :: st)) : ZP C nL Φ k n L pc st := by
  obtain ⟨p, l, e, R, s, m, args, below, meth, c, g, Q⟩ := C
  obtain ⟨hx, hb, hml, hown, hts, hret, hlk, hK, hR, hQ⟩ := X
  subst hn
  intro h H locs cells slots ls h1 h2 h3 h4 h5 h6
  exact lv_null hx hb hd (kk h H locs cells slots ls h1 h2 h3 h4 h5 h6)
theorem z_ireturn (X : zX C cc own nL (some .int) d mc ms post) {a : Int} (hd : decode cc pc = .ok (.ireturn, 1)) (hk : k ≤ mc) (hn : n ≤ ms) (hp : ∀ h, Φ h → post (some (vI a)) h) : ZP C nL Φ k n L pc [vI a] := by
  obtain ⟨p, l, e, R, s, m, args, below, meth, c, g, Q⟩ := C
  obtain ⟨hx, hb, hml, hown, hts, hret, hlk, hK, hR, hQ⟩ := X
  intro h H locs cells slots ls h1 h2 h3 h4 h5 h6
  refine hQ H locs cells slots _ ?_
  refine W.widen (k := mc) (n := ms) (Nat.le_trans h4 hk) (Nat.le_trans h5 hn) ?_
  exact W.iret (v := jI a) hx hb hret (fun t ht hW => ⟨⟨_, h, rfl, hp h h1, by rw [ht]; exact h2⟩, h3.F ht⟩) h3.2.2 hd
theorem z_zreturn {ty : FieldType} (X : zX C cc own nL (some ty) d mc ms post) {a : Int} (hd : decode cc pc = .ok (.ireturn, 1)) (ha : narrow ty (vI a) = vI a) (hk : k ≤ mc) (hn : n ≤ ms) (hp : ∀ h, Φ h → post (some (vI a)) h) : ZP C nL Φ k n L pc [vI a] := by
  obtain ⟨p, l, e, R, s, m, args, below, meth, c, g, Q⟩ := C
  obtain ⟨hx, hb, hml, hown, hts, hret, hlk, hK, hR, hQ⟩ := X
  intro h H locs cells slots ls h1 h2 h3 h4 h5 h6
  refine hQ H locs cells slots _ ?_
  refine W.widen (k := mc) (n := ms) (Nat.le_trans h4 hk) (Nat.le_trans h5 hn) ?_
  exact W.zret (v := jI a) hx hb hret ha (fun t ht hW => ⟨⟨_, h, rfl, hp h h1, by rw [ht]; exact h2⟩, h3.F ht⟩) h3.2.2 hd
theorem z_return (X : zX C cc own nL none d mc ms post) (hd : decode cc pc = .ok (.return_, 1)) (hk : k ≤ mc) (hn : n ≤ ms) (hp : ∀ h, Φ h → post none h) : ZP C nL Φ k n L pc [] := by
  obtain ⟨p, l, e, R, s, m, args, below, meth, c, g, Q⟩ := C
  obtain ⟨hx, hb, hml, hown, hts, hret, hlk, hK, hR, hQ⟩ := X
  intro h H locs cells slots ls h1 h2 h3 h4 h5 h6
  refine hQ H locs cells slots _ ?_
  refine W.widen (k := mc) (n := ms) (Nat.le_trans h4 hk) (Nat.le_trans h5 hn) ?_
  exact W.vret hx hb hret (fun t ht hW => ⟨⟨none, h, rfl, hp h h1, by rw [ht]; exact h2⟩, h3.F ht⟩) h3.2.2 hd
theorem z_areturn {rt : FieldType} (X : zX C cc own nL (some rt) d mc ms post) (hrt : (∃ n, rt = .object n) ∨ ∃ t, rt = .array t) {v : Value} (hv : v = .null ∨ ∃ a, v = .ref a) (hd : decode cc pc = .ok (.areturn, 1)) (hk : k ≤ mc) (hn : n ≤ ms) (hp : ∀ h, Φ h → post (some v) h) : ZP C nL Φ k n L pc [v] := by
  obtain ⟨p, l, e, R, s, m, args, below, meth, c, g, Q⟩ := C
  obtain ⟨hx, hb, hml, hown, hts, hret, hlk, hK, hR, hQ⟩ := X
  intro h H locs cells slots ls h1 h2 h3 h4 h5 h6
  refine hQ H locs cells slots _ ?_
  refine W.widen (k := mc) (n := ms) (Nat.le_trans h4 hk) (Nat.le_trans h5 hn) ?_
  exact W.aret hx hb hret hrt hv (fun t ht hW => ⟨⟨_, h, rfl, hp h h1, by rw [ht]; exact h2⟩, h3.F ht⟩) h3.2.2 hd
theorem nar_bI (b : Prop) [Decidable b] : narrow .boolean (vI (bI b)) = vI (bI b) := by
  unfold bI
  split <;> decide
theorem nar_b {a : Int} (h : a = 0 ∨ a = 1) : narrow .boolean (vI a) = vI a := by
  rcases h with rfl | rfl <;> decide
theorem nar_0 : narrow .boolean (vI 0) = vI 0 := by decide
theorem nar_1 : narrow .boolean (vI 1) = vI 1 := by decide
end ZROWS
