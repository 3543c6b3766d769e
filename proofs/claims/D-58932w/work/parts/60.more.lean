/-! MORE ROWS: shifts, bytes and truth values in arrays, arraycopy, class objects, instanceof -/
section ZMORE
variable {C : ZC} {cc : ByteArray} {own : String} {nL : Nat} {ret : Option FieldType} {d mc ms : Nat} {post : Option Value → GH → Prop} {px : String → GH → Prop} {k n : Nat} {L : List (Option Value)} {pc pc' : Nat} {st : List Value} {h1 : GH} {Φ Φ' : GH → Prop}
theorem z_ishr (X : zX C cc own nL ret d mc ms post) {a b r : Int} (hz : jI a >>> (jI b &&& 31) = jI r) (hd : decode cc pc = .ok (.ishr, 1)) (hn : pc + 1 = pc') (kk : ZP C nL Φ k n L pc' (vI r :: st)) : ZP C nL Φ k n L pc (vI b :: vI a :: st) := by
  obtain ⟨p, l, e, R, s, m, args, below, meth, c, g, Q⟩ := C
  obtain ⟨hx, hb, hml, hown, hts, hret, hlk, hK, hR, hQ⟩ := X
  subst hn
  intro h H locs cells slots ls h1 h2 h3 h4 h5 h6
  refine lv_ishr hx hb hd ?_
  rw [hz]
  exact kk h H locs cells slots ls h1 h2 h3 h4 h5 h6
theorem z_i2b (X : zX C cc own nL ret d mc ms post) {a r : Int} (hz : (jI a).toInt8.toInt32 = jI r) (hd : decode cc pc = .ok (.i2b, 1)) (hn : pc + 1 = pc') (kk : ZP C nL Φ k n L pc' (vI r :: st)) : ZP C nL Φ k n L pc (vI a :: st) := by
  obtain ⟨p, l, e, R, s, m, args, below, meth, c, g, Q⟩ := C
  obtain ⟨hx, hb, hml, hown, hts, hret, hlk, hK, hR, hQ⟩ := X
  subst hn
  intro h H locs cells slots ls h1 h2 h3 h4 h5 h6
  exact lv_i2b hx hb hd hz (kk h H locs cells slots ls h1 h2 h3 h4 h5 h6)
theorem z_bald1 (X : zX C cc own nL ret d mc ms post) {a N : Nat} {f : Int → Int} {i : Int} (hh : h1 a = some (zAi 13 N f)) (hi : 0 ≤ i ∧ i < N) (hN : N ≤ 2147483647) (hd : decode cc pc = .ok (.baload, 1)) (hn : pc + 1 = pc') (kk : ZP C nL (zAt h1) k n L pc' (vI (f i) :: st)) : ZP C nL (zAt h1) k n L pc (vI i :: vR a :: st) := by
  obtain ⟨p, l, e, R, s, m, args, below, meth, c, g, Q⟩ := C
  obtain ⟨hx, hb, hml, hown, hts, hret, hlk, hK, hR, hQ⟩ := X
  subst hn
  intro h H locs cells slots ls g1 h2 h3 h4 h5 h6
  have h9 : h a = some (zAi 13 N f) := by rw [g1]; exact hh
  have h7 : va_at g.1 zCl (a, .inl (g.2.2 13, N, .inl fun j => jI (f j))) H := (h2 a _ h9).2
  refine va_bald (i := jI i) hx hb hK.facts.1 (zP1 h7) 0 3 rfl rfl (jI_in hi hN) hd ?_
  rw [jI_clamp ⟨hi.1, by omega⟩, show ((i.toNat : Nat) : Int) = i by omega]
  exact kk h H locs cells slots ls g1 h2 h3 h4 h5 h6
theorem z_zald1 (X : zX C cc own nL ret d mc ms post) {a N : Nat} {f : Int → Int} {i : Int} (hh : h1 a = some (zAi 12 N f)) (hi : 0 ≤ i ∧ i < N) (hN : N ≤ 2147483647) (hd : decode cc pc = .ok (.baload, 1)) (hn : pc + 1 = pc') (kk : ZP C nL (zAt h1) k n L pc' (vI (f i) :: st)) : ZP C nL (zAt h1) k n L pc (vI i :: vR a :: st) := by
  obtain ⟨p, l, e, R, s, m, args, below, meth, c, g, Q⟩ := C
  obtain ⟨hx, hb, hml, hown, hts, hret, hlk, hK, hR, hQ⟩ := X
  subst hn
  intro h H locs cells slots ls g1 h2 h3 h4 h5 h6
  have h9 : h a = some (zAi 12 N f) := by rw [g1]; exact hh
  have h7 : va_at g.1 zCl (a, .inl (g.2.2 12, N, .inl fun j => jI (f j))) H := (h2 a _ h9).2
  refine va_zald (i := jI i) hx hb hK.facts.1 (zP1 h7) 0 2 rfl rfl (jI_in hi hN) hd ?_
  rw [jI_clamp ⟨hi.1, by omega⟩, show ((i.toNat : Nat) : Int) = i by omega]
  exact kk h H locs cells slots ls g1 h2 h3 h4 h5 h6
theorem z_bast1 (X : zX C cc own nL ret d mc ms post) {a N : Nat} {f : Int → Int} {i z : Int} (hh : h1 a = some (zAi 13 N f)) (hi : 0 ≤ i ∧ i < N) (hN : N ≤ 2147483647) (hz : narrow .byte (vI z) = vI z) (hd : decode cc pc = .ok (.bastore, 1)) (hn : pc + 1 = pc') (kk : ∀ h2, h2 = hset h1 a (zAi 13 N (iup f i z)) → ZP C nL (zAt h2) k n L pc' st) : ZP C nL (zAt h1) k n L pc (vI z :: vI i :: vR a :: st) := by
  obtain ⟨p, l, e, R, s, m, args, below, meth, c, g, Q⟩ := C
  obtain ⟨hx, hb, hml, hown, hts, hret, hlk, hK, hR, hQ⟩ := X
  subst hn
  intro h H locs cells slots ls g1 h2 h3 h4 h5 h6
  have g1 : h = h1 := g1
  subst g1
  obtain ⟨hbase, hat⟩ := h2 a _ hh
  have hty := (hK.facts.1.2 3 _ rfl).1
  refine W.bast hx hb hat (hty N (fun j => .int (jI (f j)))) (fun q => by cases q) (by show ¬ (jI i < 0 ∨ (arrV _ _ _).slots.size ≤ _); rw [arrV_size]; exact jI_in hi hN) rfl rfl hd fun H1 e z2 oq => ?_
  refine kk _ rfl _ H1 _ cells slots ls rfl (h2.set hbase ?_ oq) (h3.put z2 oq hbase) h4 h5 h6
  show H1[a]? = some (vp_cell _ _)
  rw [e, vp_cell_i, vp_cell_i, arrV_store, jI_clamp ⟨hi.1, by omega⟩, hz]
  congr 2
  funext q
  unfold updV iup
  by_cases hq : q = i.toNat
  · rw [if_pos hq, if_pos (by omega)]
  · rw [if_neg hq, if_neg (by omega)]
theorem z_zast1 (X : zX C cc own nL ret d mc ms post) {a N : Nat} {f : Int → Int} {i z : Int} (hh : h1 a = some (zAi 12 N f)) (hi : 0 ≤ i ∧ i < N) (hN : N ≤ 2147483647) (hz : narrow .boolean (vI z) = vI z) (hd : decode cc pc = .ok (.bastore, 1)) (hn : pc + 1 = pc') (kk : ∀ h2, h2 = hset h1 a (zAi 12 N (iup f i z)) → ZP C nL (zAt h2) k n L pc' st) : ZP C nL (zAt h1) k n L pc (vI z :: vI i :: vR a :: st) := by
  obtain ⟨p, l, e, R, s, m, args, below, meth, c, g, Q⟩ := C
  obtain ⟨hx, hb, hml, hown, hts, hret, hlk, hK, hR, hQ⟩ := X
  subst hn
  intro h H locs cells slots ls g1 h2 h3 h4 h5 h6
  have g1 : h = h1 := g1
  subst g1
  obtain ⟨hbase, hat⟩ := h2 a _ hh
  have hty := (hK.facts.1.2 2 _ rfl).1
  refine W.zast hx hb hat (hty N (fun j => .int (jI (f j)))) (fun q => by cases q) (by show ¬ (jI i < 0 ∨ (arrV _ _ _).slots.size ≤ _); rw [arrV_size]; exact jI_in hi hN) rfl rfl hd fun H1 e z2 oq => ?_
  refine kk _ rfl _ H1 _ cells slots ls rfl (h2.set hbase ?_ oq) (h3.put z2 oq hbase) h4 h5 h6
  show H1[a]? = some (vp_cell _ _)
  rw [e, vp_cell_i, vp_cell_i, arrV_store, jI_clamp ⟨hi.1, by omega⟩, hz]
  congr 2
  funext q
  unfold updV iup
  by_cases hq : q = i.toNat
  · rw [if_pos hq, if_pos (by omega)]
  · rw [if_neg hq, if_neg (by omega)]
/-- newarray of bytes -/
theorem z_newb1 (X : zX C cc own nL ret d mc ms post) {N : Nat} (hN : N ≤ 100000) (hd : decode cc pc = .ok (.newarray .byte, 2)) (hn : pc + 2 = pc') (hk : k + 1 ≤ mc) (hm : n + N ≤ ms)
    (kk : ∀ q h2, h1 q = none → h2 = hset h1 q (zAi 13 N fun _ => 0) → ZP C nL (zAt h2) (k + 1) (n + N) L pc' (vR q :: st)) : ZP C nL (zAt h1) k n L pc (vI (N : Int) :: st) := by
  obtain ⟨p, l, e, R, s, m, args, below, meth, c, g, Q⟩ := C
  obtain ⟨hx, hb, hml, hown, hts, hret, hlk, hK, hR, hQ⟩ := X
  subst hn
  intro h H locs cells slots ls g1 h2 h3 h4 h5 h6
  have g1 : h = h1 := g1
  subst g1
  have hR' : R = zrm d mc ms := hR
  subst hR'
  have hA : (Cond.arrayClass (Op.newarray.typeOf .byte)).before args s = true := hts _ q484
  have hRA : va_RA s (g.2.2 13) .byte := (hK.facts.1.2 3 _ rfl).2
  refine va_newaK hx hb hA rfl hd rfl (n := jI (N : Int)) (N := N) (by rw [jI_lt0 (by unfold rng; omega)]; omega) (by rw [jI_clamp (by omega)]; exact Int.toNat_natCast N) (by show N * 1 ≤ 536870912; omega) (by show cells + 1 ≤ mc; omega) (by show slots + N ≤ ms; omega) rfl fun H1 cA e1 z1 o1 hAr hNm => ?_
  have ec : cA = g.2.2 13 := Option.some.inj (hNm.symm.trans hRA)
  subst ec
  exact kk H.size _ (h2.none (Nat.le_refl _)) rfl (hset h H.size (zAi 13 N fun _ => 0)) H1 locs (cells + 1) (slots + N) ls rfl (h2.push rfl (Nat.le_trans hK.1 h3.1) e1 o1) ⟨by have := h3.1; omega, fun x a b => (o1 x (Nat.lt_of_lt_of_le a h3.1)).trans (h3.2.1 x a b), h3.2.2⟩ (by omega) (by omega) h6
/-- newarray of truth values -/
theorem z_newz1 (X : zX C cc own nL ret d mc ms post) {N : Nat} (hN : N ≤ 100000) (hd : decode cc pc = .ok (.newarray .boolean, 2)) (hn : pc + 2 = pc') (hk : k + 1 ≤ mc) (hm : n + N ≤ ms)
    (kk : ∀ q h2, h1 q = none → h2 = hset h1 q (zAi 12 N fun _ => 0) → ZP C nL (zAt h2) (k + 1) (n + N) L pc' (vR q :: st)) : ZP C nL (zAt h1) k n L pc (vI (N : Int) :: st) := by
  obtain ⟨p, l, e, R, s, m, args, below, meth, c, g, Q⟩ := C
  obtain ⟨hx, hb, hml, hown, hts, hret, hlk, hK, hR, hQ⟩ := X
  subst hn
  intro h H locs cells slots ls g1 h2 h3 h4 h5 h6
  have g1 : h = h1 := g1
  subst g1
  have hR' : R = zrm d mc ms := hR
  subst hR'
  have hA : (Cond.arrayClass (Op.newarray.typeOf .boolean)).before args s = true := hts _ q746
  have hRA : va_RA s (g.2.2 12) .boolean := (hK.facts.1.2 2 _ rfl).2
  refine va_newaK hx hb hA rfl hd rfl (n := jI (N : Int)) (N := N) (by rw [jI_lt0 (by unfold rng; omega)]; omega) (by rw [jI_clamp (by omega)]; exact Int.toNat_natCast N) (by show N * 1 ≤ 536870912; omega) (by show cells + 1 ≤ mc; omega) (by show slots + N ≤ ms; omega) rfl fun H1 cA e1 z1 o1 hAr hNm => ?_
  have ec : cA = g.2.2 12 := Option.some.inj (hNm.symm.trans hRA)
  subst ec
  exact kk H.size _ (h2.none (Nat.le_refl _)) rfl (hset h H.size (zAi 12 N fun _ => 0)) H1 locs (cells + 1) (slots + N) ls rfl (h2.push rfl (Nat.le_trans hK.1 h3.1) e1 o1) ⟨by have := h3.1; omega, fun x a b => (o1 x (Nat.lt_of_lt_of_le a h3.1)).trans (h3.2.1 x a b), h3.2.2⟩ (by omega) (by omega) h6
/-- the object a of class ci, as the rows of casts ask for it -/
theorem z_recv {g : zG} {s : State} {h : GH} {H : Heap} (hK : zK g s) (h2 : zH g h H) {a ci : Nat} {fs : List Value} {r : vw_C} (hc : zCl[ci]? = some r) (hh : h a = some (zO ci fs)) : ∃ cell : Cell, H[a]? = some cell ∧ cell.vm.isStatics = false ∧ s.vm.findClass r.1 = some cell.cls := by
  have h7 : va_at g.1 zCl (a, .inr (ci, fs)) H := (h2 a _ hh).2
  exact va_recv (q0 := 0) (ci := ci) (fs := fs) hK.facts.1 (zP1 h7) hc rfl
theorem z_instY1 (X : zX C cc own nL ret d mc ms post) {a ci idx : Nat} {r : vw_C} {nm : String} (hcl : Cond.classLink own idx nm ∈ lw_all) (hc : zCl[ci]? = some r) (hca : Cond.castable r.1 nm ∈ lw_tbl) (hv : ∃ fs, h1 a = some (zO ci fs)) (hd : decode cc pc = .ok (.instanceof idx, 3)) (hn : pc + 3 = pc')
    (kk : ZP C nL (zAt h1) k n L pc' (vI 1 :: st)) : ZP C nL (zAt h1) k n L pc (vR a :: st) := by
  obtain ⟨p, l, e, R, s, m, args, below, meth, c, g, Q⟩ := C
  obtain ⟨hx, hb, hml, hown, hts, hret, hlk, hK, hR, hQ⟩ := X
  subst hn
  intro h H locs cells slots ls g1 h2 h3 h4 h5 h6
  have g1 : h = h1 := g1
  subst g1
  obtain ⟨fs, hfs⟩ := hv
  exact va_instY hx hb hown (hts _ hcl) (hK.facts.2.2.2.2.2.2.1 _ hca rfl) (z_recv hK h2 hc hfs) hd (kk h H locs cells slots ls rfl h2 h3 h4 h5 h6)
theorem z_instN1 (X : zX C cc own nL ret d mc ms post) {a ci idx : Nat} {r : vw_C} {nm : String} (hcl : Cond.classLink own idx nm ∈ lw_all) (hc : zCl[ci]? = some r) (hca : ∀ U, zFacts (zg C) U → va_Nc r.1 nm U) (hv : ∃ fs, h1 a = some (zO ci fs)) (hd : decode cc pc = .ok (.instanceof idx, 3)) (hn : pc + 3 = pc')
    (kk : ZP C nL (zAt h1) k n L pc' (vI 0 :: st)) : ZP C nL (zAt h1) k n L pc (vR a :: st) := by
  obtain ⟨p, l, e, R, s, m, args, below, meth, c, g, Q⟩ := C
  obtain ⟨hx, hb, hml, hown, hts, hret, hlk, hK, hR, hQ⟩ := X
  subst hn
  intro h H locs cells slots ls g1 h2 h3 h4 h5 h6
  have g1 : h = h1 := g1
  subst g1
  obtain ⟨fs, hfs⟩ := hv
  exact va_instNo hx hb hown (hts _ hcl) (hca s hK.facts) (z_recv hK h2 hc hfs) hd (kk h H locs cells slots ls rfl h2 h3 h4 h5 h6)
/-- the class object of Object[] -/
theorem z_ldcM (X : zX C cc own nL ret d mc ms post) {idx : Nat} (hcl : Cond.classLink own idx "[Ljava/lang/Object;" ∈ lw_all) (hd : decode cc pc = .ok (.ldc idx, 2)) (hn : pc + 2 = pc') (kk : ZP C nL Φ k n L pc' (vR ((zg C).2.2 7) :: st)) : ZP C nL Φ k n L pc st := by
  obtain ⟨p, l, e, R, s, m, args, below, meth, c, g, Q⟩ := C
  obtain ⟨hx, hb, hml, hown, hts, hret, hlk, hK, hR, hQ⟩ := X
  subst hn
  intro h H locs cells slots ls g1 h2 h3 h4 h5 h6
  exact va_ldcM hx hb hown (hts _ hcl) hK.facts.2.2.2.2.2.1 hd (kk h H locs cells slots ls g1 h2 h3 h4 h5 h6)
/-- arraycopy of references, for the heap as it is -/
theorem W_copyq {p : Program} {l : Launch} {e : Env} {R : Room} {s : State} {m : MethodId} {args : Array Value} {below : List Frame} {meth : Method} {c : Code} {H : Heap} {locs : List Loc} {cells slots : Nat} {Q : State → Prop} {ls : Array Slot} {rest : List Value} {a : Nat} {tys : List (ClassId × FieldType)} {D : va_G} {cl : List vw_C}
    (hexec : p.tables.exec = Jvm.exec) (hb : c.code = cc) (hml : c.maxLocals = ls.size) {index : Nat} (hown : s.vm.findClass own = some m.cls) (hlink : (Cond.methodLink own index arraycopyName).before args s = true) (hnat : (Cond.native arraycopyName).before args s = true) (hstat : (Cond.static arraycopyName).before args s = true) (hini : (Cond.initialized "java/lang/System").before args s = true)
    (hK : va_K D cl tys s) (t0 t1 : Nat) {a0 : Nat} {c0 c1 : ClassId} {n0 n1 : Nat} {f g : Nat → Option Nat} {E0 E1 Cn : String} (hc0 : H[a0]? = some (vp_cell c0 (n0, .inr (.inr (.inr (.inr f)))))) (hc1 : H[a]? = some (vp_cell c1 (n1, .inr (.inr (.inr (.inr g)))))) (ht0 : tys[t0]? = some (c0, .object E0)) (ht1 : tys[t1]? = some (c1, .object E1))
    {sp dp n : Int32} (h1 : ¬ sp < 0) (h2 : ¬ dp < 0) (h3 : ¬ n < 0) (h4 : sp.toNatClampNeg + n.toNatClampNeg ≤ n0) (h5 : dp.toNatClampNeg + n.toNatClampNeg ≤ n1) (hel : ∀ i : Nat, i < n.toNatClampNeg → ∀ y : Nat, f (sp.toNatClampNeg + i) = some y → ∃ cellV : Cell, H[y]? = some cellV ∧ cellV.vm.isStatics = false ∧ s.vm.findClass Cn = some cellV.cls) (hasg : ∀ comp c0 : ClassId, s.vm.findClass E1 = some comp → s.vm.findClass Cn = some c0 → s.vm.assignable c0 comp = true)
    (hframes : 1 ≤ R.frames) (hlocals : (rest.map fun v => v.category).sum + (nativeFrameWords "java/lang/System" "arraycopy" 5 + 11) ≤ R.locals) (hdg : decode cc pc = .ok (.invokestatic index, 3))
    (kk : ∀ (H1 : Heap) (L1 : List Loc), H1.size = H.size → H1[a]? = some (vp_cell c1 (n1, .inr (.inr (.inr (.inr (va_cpy f g sp.toNatClampNeg dp.toNatClampNeg n.toNatClampNeg)))))) → (∀ q : Nat, q ≠ a → H1[q]? = H[q]?) → (∀ z ∈ L1, z.base = a) → W p l e R s m args below meth c H1 (locs ++ L1) cells slots Q (F0 m (pc + 3) ls rest)) : W p l e R s m args below meth c H locs cells slots Q (F0 m pc ls (.int n :: .int dp :: .ref a :: .int sp :: .ref a0 :: rest)) := by
  have nn : ∀ z : Int32, ¬ z < 0 → z.toInt = (z.toNatClampNeg : Int) := by
    intro z hz
    have hz0 : (0 : Int) ≤ z.toInt := by
      have := Int32.not_lt.mp hz
      simpa using Int32.le_iff_toInt_le.mp this
    show z.toInt = ((z.toInt.toNat : Nat) : Int)
    omega
  intro T hT X
  obtain ⟨-, k0, hk0, cm0, hkk0⟩ := (hK.2 t0 _ ht0).1 n0 (fun j => va_rf (f j))
  obtain ⟨-, k1, hk1, cm1, hkk1⟩ := (hK.2 t1 _ ht1).1 n1 (fun j => va_rf (g j))
  obtain ⟨vm', X', step⟩ := X.arraycopy hexec hown hlink hnat hstat hini (src := a0) (dst := a) (cs := vp_cell c0 (n0, .inr (.inr (.inr (.inr f))))) (cd := vp_cell c1 (n1, .inr (.inr (.inr (.inr g))))) (srcPos := sp) (destPos := dp) (n := n) (by rw [hT]; exact hc0) (by rw [hT]; exact hc1)
    (fun _ h => by cases h) (fun _ h => by cases h) (fun h => by cases h) (fun h => by cases h) hk0 hk1 hkk0 hkk1 rfl h1 h2 h3
    (by rw [nn sp h1, nn n h3]; show ¬ _ > ((arrV c0 n0 (fun j => va_rf (f j))).slots.size : Int); rw [arrV_size]; omega)
    (by rw [nn dp h2, nn n h3]; show ¬ _ > ((arrV c1 n1 (fun j => va_rf (g j))).slots.size : Int); rw [arrV_size]; omega)
    (fun vm₁ hal i hi => by
      have e : (vp_cell c0 (n0, .inr (.inr (.inr (.inr f))))).slots.getD (sp.toNatClampNeg + i) .null = va_rf (f (sp.toNatClampNeg + i)) := by
        show (arrV c0 n0 (fun j => va_rf (f j))).slots.getD _ _ = _
        rw [Array.getD_eq_getD_getElem?, arrV_read _ _ (by omega)]
        rfl
      rw [e]
      cases hy : f (sp.toNatClampNeg + i) with
      | none => exact ⟨rfl, trivial⟩
      | some y =>
        obtain ⟨cellV, g1, g2, g3⟩ := hel i hi y hy
        obtain ⟨kA, comp, r1, r2, r3, -⟩ := (hK.2 t1 _ ht1).2
        cases hk1.symm.trans r1
        cases hkk1.symm.trans r2
        obtain ⟨kC, hkC, -⟩ := Vm.findClass_spec g3
        obtain ⟨kE, hkE, -⟩ := Vm.findClass_spec r3
        obtain ⟨kC', hkC', -⟩ := hal.2.2 _ _ hkC
        obtain ⟨kE', hkE', -⟩ := hal.2.2 _ _ hkE
        refine ⟨rfl, cellV, (show T.heap[y]? = some cellV by rw [hT]; exact g1), (fun q h => by rw [h] at g2; cases g2), ⟨kC', hkC'⟩, ?_, ?_⟩
        · exact ⟨kE', hkE'⟩
        · show vm₁.assignable _ _ = true
          rw [hal.assignable]
          exact hasg _ _ r3 g3)
    (g := F0 m pc ls (.int n :: .int dp :: .ref a :: .int sp :: .ref a0 :: rest)) rfl (by rw [hml]) (rest := rest) rfl (by rw [hb]; exact hdg) hframes (by show 2 * 0 + _ + _ ≤ _; omega)
  have e1 : copied (vp_cell c0 (n0, .inr (.inr (.inr (.inr f))))) (vp_cell c1 (n1, .inr (.inr (.inr (.inr g))))) sp dp n = vp_cell c1 (n1, .inr (.inr (.inr (.inr (va_cpy f g sp.toNatClampNeg dp.toNatClampNeg n.toNatClampNeg))))) := by
    rw [vp_cell_q, vp_cell_q, vp_cell_q]
    exact va_copied (fun z => va_rf z) c0 c1 f g h4
  rw [e1] at X' step
  have hl : a < H.size := (Array.getElem?_eq_some_iff.mp hc1).1
  obtain ⟨t, a1, b1⟩ := kk (H.setIfInBounds a (vp_cell c1 (n1, .inr (.inr (.inr (.inr (va_cpy f g sp.toNatClampNeg dp.toNatClampNeg n.toNatClampNeg))))))) _ (by simp) (show (H.setIfInBounds a _)[a]? = some _ by simp [Array.getElem?_setIfInBounds, hl]) (fun q hq => by simp [Array.getElem?_setIfInBounds, Ne.symm hq]) (fun q hq => by
      obtain ⟨z, -, hz⟩ := List.mem_map.mp hq
      rw [← hz]) _ (by rw [← hT]; rfl) X'
  exact ⟨t, step t a1, b1⟩
/-- arraycopy of objects of one class between arrays of Objects -/
theorem z_copyq (X : zX C cc own nL ret d mc ms post) {a0 a n0 n1 idx ci : Nat} {r : vw_C} {f f1 : Nat → Option Nat} {sp dp N : Int} (hlink : Cond.methodLink own idx arraycopyName ∈ lw_all) (hd : decode cc pc = .ok (.invokestatic idx, 3)) (hn : pc + 3 = pc') (hdd : 1 ≤ d) (hcat : (st.map fun v => v.category).sum ≤ 8)
    (hc : zCl[ci]? = some r) (hca : Cond.castable r.1 "java/lang/Object" ∈ lw_tbl) (hh0 : h1 a0 = some (zAq 14 n0 f)) (hh1 : h1 a = some (zAq 14 n1 f1)) (hsp : 0 ≤ sp) (hdp : 0 ≤ dp) (hN : 0 ≤ N) (h4 : sp + N ≤ n0) (h5 : dp + N ≤ n1) (hb0 : n0 ≤ 100000 ∧ n1 ≤ 100000)
    (hel : ∀ i : Nat, (i : Int) < N → ∀ y, f (sp.toNat + i) = some y → ∃ fs, h1 y = some (zO ci fs))
    (kk : ∀ h2, h2 = hset h1 a (zAq 14 n1 (va_cpy f f1 sp.toNat dp.toNat N.toNat)) → ZP C nL (zAt h2) k n L pc' st) : ZP C nL (zAt h1) k n L pc (vI N :: vI dp :: vR a :: vI sp :: vR a0 :: st) := by
  obtain ⟨p, l, e, R, s, m, args, below, meth, c, g, Q⟩ := C
  obtain ⟨hx, hb, hml, hown, hts, hret, hlk, hK, hR, hQ⟩ := X
  subst hn
  intro h H locs cells slots ls g1 h2 h3 g4 g5 h6
  have g1 : h = h1 := g1
  subst g1
  have hR' : R = zrm d mc ms := hR
  subst hR'
  have e1 := jI_clamp (z := sp) (by omega)
  have e2 := jI_clamp (z := dp) (by omega)
  have e3 := jI_clamp (z := N) (by omega)
  have r1 : rng sp := by unfold rng; omega
  have r2 : rng dp := by unfold rng; omega
  have r3 : rng N := by unfold rng; omega
  obtain ⟨b1, at1⟩ := h2 a _ hh1
  refine W_copyq (Cn := r.1) hx hb (hml.trans h6.1.symm) hown (hts _ hlink) (hts _ q377) (hts _ q376) (hts _ q122) hK.facts.1 4 4 (h2 a0 _ hh0).2 at1 rfl rfl (by rw [jI_lt0 r1]; omega) (by rw [jI_lt0 r2]; omega) (by rw [jI_lt0 r3]; omega) (by rw [e1, e3]; omega) (by rw [e2, e3]; omega) (fun i hi y hy => ?_) (fun comp c0 u1 u2 => vb_asgC (hK.facts.2.2.2.2.2.2.1 _ hca rfl) comp c0 u1 u2) hdd (by
    have hw : nativeFrameWords "java/lang/System" "arraycopy" 5 ≤ 20 := by decide
    show _ ≤ 40 * d
    omega) hd fun H1 L1 z2 e9 oq hL1 => ?_
  · rw [e3] at hi
    rw [e1] at hy
    obtain ⟨fs, hfs⟩ := hel i (by omega) y hy
    exact z_recv hK h2 hc hfs
  · rw [e1, e2, e3] at e9
    exact kk _ rfl _ H1 _ cells slots ls rfl (h2.set b1 e9 oq) ⟨by rw [z2]; exact h3.1, fun x u v => (oq x fun hh => v (by rw [hh]; exact b1)).trans (h3.2.1 x u v), fun z hz => by
      rcases List.mem_append.mp hz with q | q
      · exact h3.2.2 z q
      · rw [hL1 z q]; exact b1⟩ g4 g5 h6
/-- getClass() of an array of Objects -/
theorem z_getC (X : zX C cc own nL ret d mc ms post) {a N idx : Nat} {f : Nat → Option Nat} (hlink : Cond.methodLink own idx ⟨"java/lang/Object", "getClass", "()Ljava/lang/Class;"⟩ ∈ lw_all) 
    (hh : h1 a = some (zAq 14 N f)) (hdd : 1 ≤ d) (hcat : (st.map fun v => v.category).sum ≤ 8) (hd : decode cc pc = .ok (.invokevirtual idx, 3)) (hn : pc + 3 = pc') (kk : ZP C nL (zAt h1) k n L pc' (vR ((zg C).2.2 7) :: st)) : ZP C nL (zAt h1) k n L pc (vR a :: st) := by
  obtain ⟨p, l, e, R, s, m, args, below, meth, c, g, Q⟩ := C
  obtain ⟨hx, hb, hml, hown, hts, hret, hlk, hK, hR, hQ⟩ := X
  subst hn
  intro h H locs cells slots ls g1 h2 h3 g4 g5 h6
  have g1 : h = h1 := g1
  subst g1
  have hR' : R = zrm d mc ms := hR
  subst hR'
  have hRA : va_RA s (g.2.2 14) (.object "java/lang/Object") := (hK.facts.1.2 4 _ rfl).2
  exact va_getC hx hb (hml.trans h6.1.symm) hown (hts _ hlink) (va_any rfl (hK.facts.2.2.2.2.2.2.1 _ q2729 rfl)) (hts _ q2728) (hts _ q334) (hts _ q365) hK.facts.2.2.2.2.2.1 ⟨_, (h2 a _ hh).2, rfl, va_nmO hRA (by decide +kernel)⟩ hdd (by show _ ≤ 40 * d; omega) hd (kk h H locs cells slots ls rfl h2 h3 g4 g5 h6)
theorem z_acmp_ne (X : zX C cc own nL ret d mc ms post) {rx ry : Option Nat} {off : Int} {tgt : Nat} (hd : decode cc pc = .ok (.if_acmp .ne off, 3)) (hn : pc + 3 = pc') (ht : (pc : Int) + off = (tgt : Int)) (kt : rx ≠ ry → ZP C nL Φ k n L tgt st) (kf : rx = ry → ZP C nL Φ k n L pc' st) : ZP C nL Φ k n L pc (va_rf ry :: va_rf rx :: st) := by
  obtain ⟨p, l, e, R, s, m, args, below, meth, c, g, Q⟩ := C
  obtain ⟨hx, hb, hml, hown, hts, hret, hlk, hK, hR, hQ⟩ := X
  subst hn
  intro h H locs cells slots ls h1 h2 h3 h4 h5 h6
  exact lv_acmp_ne hx hb hd ht (fun q => kt q h H locs cells slots ls h1 h2 h3 h4 h5 h6) (fun q => kf q h H locs cells slots ls h1 h2 h3 h4 h5 h6)
/-- the length of the shared empty array -/
theorem z_alen6 (X : zX C cc own nL ret d mc ms post) (hd : decode cc pc = .ok (.arraylength, 1)) (hn : pc + 1 = pc') (kk : ZP C nL Φ k n L pc' (vI 0 :: st)) : ZP C nL Φ k n L pc (vR ((zg C).2.2 6) :: st) := by
  obtain ⟨p, l, e, R, s, m, args, below, meth, c, g, Q⟩ := C
  obtain ⟨hx, hb, hml, hown, hts, hret, hlk, hK, hR, hQ⟩ := X
  subst hn
  intro h H locs cells slots ls g1 h2 h3 g4 g5 h6
  exact va_tlen hx hb hK.facts.2.2.1.2 h3 rfl hd (kk h H locs cells slots ls g1 h2 h3 g4 g5 h6)
theorem jI_shr1 {z : Int} (h : 0 ≤ z ∧ z ≤ 2147483647) : jI z >>> (jI 1 &&& 31) = jI (z / 2) := by
  obtain ⟨n, rfl⟩ : ∃ n : Nat, z = n := ⟨z.toNat, by omega⟩
  have h1 := pk_shrN (n := n) (by omega) ((1 : Int32) &&& 31) 1 (by decide)
  rw [Nat.pow_one] at h1
  have h2 : jI ((n : Int) / 2) = nI (n / 2) := by
    rw [show ((n : Int) / 2) = ((n / 2 : Nat) : Int) by omega]
    exact (jI_nat (n / 2)).symm
  rw [h2, ← jI_nat]
  exact h1
theorem jI_shr0 {z : Int} (h : 0 ≤ z ∧ z ≤ 2147483647) : jI z >>> (jI 0 &&& 31) = jI z := by
  obtain ⟨n, rfl⟩ : ∃ n : Nat, z = n := ⟨z.toNat, by omega⟩
  have h1 := pk_shrN (n := n) (by omega) ((0 : Int32) &&& 31) 0 (by decide)
  rw [Nat.pow_zero, Nat.div_one] at h1
  rw [← jI_nat]
  exact h1
/-- the fields of a new object -/
theorem df_X2 : ∀ j, j < 17 → defaultValue (tyX2 j) = vp_V [vI 0, vI 0, vI 0, vI 0, .null, vI 0, vI 0, vI 0, vI 0, vI 0, vI 0, .null, .null, .null, .null, .null, .null] j := by
  intro j hj
  have : j = 0 ∨ j = 1 ∨ j = 2 ∨ j = 3 ∨ j = 4 ∨ j = 5 ∨ j = 6 ∨ j = 7 ∨ j = 8 ∨ j = 9 ∨ j = 10 ∨ j = 11 ∨ j = 12 ∨ j = 13 ∨ j = 14 ∨ j = 15 ∨ j = 16 := by omega
  rcases this with rfl | rfl | rfl | rfl | rfl | rfl | rfl | rfl | rfl | rfl | rfl | rfl | rfl | rfl | rfl | rfl | rfl <;> rfl
theorem df_X3 : ∀ j, j < 2 → defaultValue (tyX3 j) = vp_V [vI 0, vI 0] j := by
  intro j hj
  have : j = 0 ∨ j = 1 := by omega
  rcases this with rfl | rfl <;> rfl
theorem df_X4 : ∀ j, j < 2 → defaultValue (tyX4 j) = vp_V [vI 0, vI 0] j := by
  intro j hj
  have : j = 0 ∨ j = 1 := by omega
  rcases this with rfl | rfl <;> rfl
theorem df_X5 : ∀ j, j < 3 → defaultValue (tyX5 j) = vp_V [vI 0, vI 0, vI 0] j := by
  intro j hj
  have : j = 0 ∨ j = 1 ∨ j = 2 := by omega
  rcases this with rfl | rfl | rfl <;> rfl
theorem df_X6 : ∀ j, j < 4 → defaultValue (tyX6 j) = vp_V [.null, vI 0, vI 0, vI 0] j := by
  intro j hj
  have : j = 0 ∨ j = 1 ∨ j = 2 ∨ j = 3 := by omega
  rcases this with rfl | rfl | rfl | rfl <;> rfl
theorem df_X9 : ∀ j, j < 5 → defaultValue (tyX9 j) = vp_V [vI 0, vI 0, vI 0, vI 0, vI 0] j := by
  intro j hj
  have : j = 0 ∨ j = 1 ∨ j = 2 ∨ j = 3 ∨ j = 4 := by omega
  rcases this with rfl | rfl | rfl | rfl | rfl <;> rfl
theorem df_X10 : ∀ j, j < 5 → defaultValue (tyX10 j) = vp_V [vI 0, .null, .null, vI 0, vI 0] j := by
  intro j hj
  have : j = 0 ∨ j = 1 ∨ j = 2 ∨ j = 3 ∨ j = 4 := by omega
  rcases this with rfl | rfl | rfl | rfl | rfl <;> rfl
theorem df_X12 : ∀ j, j < 3 → defaultValue (tyX12 j) = vp_V [.null, .null, vI 0] j := by
  intro j hj
  have : j = 0 ∨ j = 1 ∨ j = 2 := by omega
  rcases this with rfl | rfl | rfl <;> rfl
theorem df_X13 : ∀ j, j < 5 → defaultValue (tyX13 j) = vp_V [vI 0, vI 0, .null, vI 0, .null] j := by
  intro j hj
  have : j = 0 ∨ j = 1 ∨ j = 2 ∨ j = 3 ∨ j = 4 := by omega
  rcases this with rfl | rfl | rfl | rfl | rfl <;> rfl
theorem df_X15 : ∀ j, j < 2 → defaultValue (tyX15 j) = vp_V [.null, vI 0] j := by
  intro j hj
  have : j = 0 ∨ j = 1 := by omega
  rcases this with rfl | rfl <;> rfl
theorem df_X16 : ∀ j, j < 2 → defaultValue (tyX16 j) = vp_V [.null, .null] j := by
  intro j hj
  have : j = 0 ∨ j = 1 := by omega
  rcases this with rfl | rfl <;> rfl
theorem df_J2 : ∀ j, j < 3 → defaultValue (tyJ2 j) = vp_V [vI 0, .null, vI 0] j := by
  intro j hj
  have : j = 0 ∨ j = 1 ∨ j = 2 := by omega
  rcases this with rfl | rfl | rfl <;> rfl
theorem df_J6 : ∀ j, j < 3 → defaultValue (tyJ6 j) = vp_V [.null, vI 0, vI 0] j := by
  intro j hj
  have : j = 0 ∨ j = 1 ∨ j = 2 := by omega
  rcases this with rfl | rfl | rfl <;> rfl
theorem df_J8 : ∀ j, j < 4 → defaultValue (tyJ8 j) = vp_V [.null, vI 0, vI 0, vI 0] j := by
  intro j hj
  have : j = 0 ∨ j = 1 ∨ j = 2 ∨ j = 3 := by omega
  rcases this with rfl | rfl | rfl | rfl <;> rfl
theorem df_X1 : ∀ j, j < 4 → defaultValue (tyX1 j) = vp_V [.null, .null, .null, .null] j := by
  intro j hj
  have : j = 0 ∨ j = 1 ∨ j = 2 ∨ j = 3 := by omega
  rcases this with rfl | rfl | rfl | rfl <;> rfl
end ZMORE
