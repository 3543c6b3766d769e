/-! LAMBDAS: made at a site -/
section ZLAM2
variable {C : ZC} {cc : ByteArray} {own : String} {nL : Nat} {ret : Option FieldType} {d mc ms : Nat} {post : Option Value → GH → Prop} {px : String → GH → Prop} {k n : Nat} {L : List (Option Value)} {pc pc' : Nat} {st : List Value} {h1 : GH}
/-- what is closed about the class file that a site's shape gives -/
def lamOK (σ : Lambda.Shape) (cls : String) (bytes : ByteArray) (mL : Nat) (ret : Option FieldType) (iT cT : Nat) (fi : List Nat) (tys : Array FieldType) : Prop :=
  ∃ (D : Jvm.ClassFile.ClassFile) (fwd : Method) (lay : Array Field × Array FieldType × Array FieldType) (nT n2 : Nat), σ.file cls = some D ∧ (∀ ms, layoutMethods D = some ms → ms[1]? = some fwd) ∧ layoutFields D 0 = some lay ∧
    (fwd.code.map fun c => (c.code.data, c.maxLocals)) = some (bytes.data, mL) ∧ (fwd.accessFlags, fwd.sig.returnType) = (0x0001, ret) ∧
    (D.constantPool[iT]? = some (.methodref cT nT) ∧ D.constantPool.className? cT = some σ.implClass ∧ D.constantPool.nameAndType? nT = some (σ.implName, σ.implDesc.toString)) ∧ (D.constantPool[cT]? = some (.class_ n2) ∧ D.constantPool.string? n2 = some σ.implClass ∧ cT ≠ D.thisClass) ∧
    (∀ j, j < fi.length → ∃ nt nm ds, D.constantPool[fi.getD j 0]? = some (.fieldref 2 nt) ∧ D.constantPool.nameAndType? nt = some (nm, ds) ∧ lay.1.findIdx? (·.name == nm) = some j ∧ (lay.1[j]?).map (fun f => (f.isStatic, f.slot)) = some (false, j)) ∧ lay.2.1 = tys
theorem lam_obj {s : State} {args : Array Value} (h : (Cond.instantiable "java/lang/Object" 0).before args s = true) : ∀ o ok, s.vm.findClass "java/lang/Object" = some o → s.vm.classes[o]? = some ok → ok.instanceTypes.size = 0 := fun o ok h1 h2 => by
  obtain ⟨c, k, hc, hk, -, -, -, hs⟩ := Cond.instantiable_spec h
  cases hc.symm.trans h1
  cases hk.symm.trans h2
  exact hs
theorem lam_three {α : Type} {x : Array Nat} {F : Nat → Nat → Nat → Option α} {r : α} (h : Lambda.shapeOf?.match_15 (fun _ => Option α) x F (fun _ => none) = some r) : ∃ a b c, F a b c = some r := by
  obtain ⟨L⟩ := x
  match L, h with
  | [], h => cases h
  | [_], h => cases h
  | [_, _], h => cases h
  | [a, b, c], h => exact ⟨a, b, c, h⟩
  | _ :: _ :: _ :: _ :: _, h => cases h
theorem lam_site {cf : Jvm.ClassFile.ClassFile} {idx : Nat} {σ : Lambda.Shape} (h : Lambda.shapeOf? cf idx = some σ) :
    ∃ (b nt : Nat) (desc : String) (site : Jvm.ClassFile.MethodDescriptor), cf.constantPool[idx]? = some (.invokeDynamic b nt) ∧ cf.constantPool.nameAndType? nt = some (σ.name, desc) ∧ parseMethodDescriptor desc = some site ∧ site.parameters = σ.captured := by
  unfold Lambda.shapeOf? at h
  split at h
  · rename_i b nt hc
    obtain ⟨entries, -, h⟩ := Option.bind_eq_some_iff.mp h
    obtain ⟨bm, -, h⟩ := Option.bind_eq_some_iff.mp h
    split at h
    · obtain ⟨_, -, h⟩ := Option.bind_eq_some_iff.mp h
      obtain ⟨a0, a1, a2, h⟩ := lam_three h
      · split at h
        · split at h
          · split at h
            · obtain ⟨⟨name, desc⟩, hnt, h⟩ := Option.bind_eq_some_iff.mp h
              obtain ⟨site, hsite, h⟩ := Option.bind_eq_some_iff.mp h
              dsimp only at h
              split at h
              · obtain ⟨⟨y1, y2, y3, y4⟩, -, h⟩ := Option.bind_eq_some_iff.mp h
                obtain ⟨x1, -, h⟩ := Option.bind_eq_some_iff.mp h
                obtain ⟨x2, -, h⟩ := Option.bind_eq_some_iff.mp h
                obtain ⟨x3, -, h⟩ := Option.bind_eq_some_iff.mp h
                obtain ⟨x4, -, h⟩ := Option.bind_eq_some_iff.mp h
                obtain ⟨x5, -, h⟩ := Option.bind_eq_some_iff.mp h
                cases h
                exact ⟨b, nt, desc, site, hc, hnt, hsite, rfl⟩
              · cases h
            · cases h
          · cases h
        · cases h
    · cases h
  · cases h
/-- the sites by number -/
def lamSites : List (Nat × Cond) := [(0, siteWord_1_1), (1, siteWord_1_2), (2, siteWord_1_3), (3, siteWord_1_4), (4, siteWord_1_5), (5, siteWord_1_6), (6, siteWord_1_7), (7, siteWord_1_8), (8, siteWord_1_9), (9, siteWord_1_10), (10, siteWord_1_11), (11, siteWord_1_12), (12, siteWord_1_13), (13, siteWord_1_14)]
theorem zK.lam {g : zG} {U : State} (h : zK g U) {i : Nat} {x : MethodName} {pcS idxS : Nat} {σ : Lambda.Shape} (hs : lamSites.find? (fun z => z.1 == i) = some (i, .lambdaSite x pcS idxS σ)) : U.lambdaAt? x pcS idxS σ = some (g.2.2 (20 + i), none) :=
  h.facts.2.2.2.2.2.2.2.2.1 i x pcS idxS σ hs
/-- a contract out of the walk of its body, where the walk is to know the method by name -/
theorem zMet.mkN {l : Launch} {y : MethodName} {cy : ByteArray} {mL : Nat} {rt : Option FieldType} {dy a b : Nat} {vs : List Value} {g : zG} {h : GH} {P : Option Value → GH → Prop} {L0 : List (Option Value)} (hy : plainName y.cls = true) (hcat : vs.all (fun v => v.category == 1) = true) (hlen : (lg_sl vs).length ≤ mL) (hL0 : vs.map some ++ List.replicate (mL - vs.length) none = L0)
    (body : ∀ C : ZC, zg C = g → C.2.1 = l → C.2.2.2.2.1.methodNamed? y = some C.2.2.2.2.2.1 → zX C cy y.cls mL rt dy a b P → ZP C mL (fun x => x = h) 0 0 L0 0 []) : zMet l y cy mL rt dy a b vs g h P := by
  refine Met.ofW (cc := cy) (maxL := mL) (ret := rt) hy rfl ?_
  intro p e s m args below meth c s₁ B hml hv
  obtain ⟨rfl, hK, hH⟩ := hv
  have hts := atoms_spec (ws := ws_ y cy mL rt) B.pre
  have hts' : ∀ w ∈ lw_all, w.before _ s = true := fun w hw => hts w (List.mem_cons_of_mem _ hw)
  have hown : s.vm.findClass y.cls = some m.cls := findClass_of_methodNamed B.named
  have hl := lv_entry vs hlen
  rw [lg_entry_eq]
  refine body (p, l, e, (headSpec (ws_ y cy mL rt) (zrm dy a b)).room, s, m, vs.toArray, below, meth, c, g, MQ below (zQc g P) vs.toArray s a b (zA g)) rfl rfl B.named ⟨B.exec, B.bytes, hml, hown, hts', B.returns, B.notSynchronized, hK, rfl, fun _ _ _ _ _ hw => hw⟩ h s.heap [] 0 0 _ rfl hH va_S.rf (Nat.le_refl 0) (Nat.le_refl 0) (zL.of_args hl fun i v hi => ?_)
  subst hL0
  have hlt : i < vs.length := by
    rcases Nat.lt_or_ge i vs.length with q | q
    · exact q
    · rw [List.getElem?_append_right (by simpa using q)] at hi
      simp [List.getElem?_replicate] at hi
  rw [List.getElem?_append_left (by simpa using hlt), List.getElem?_map] at hi
  have h9 : vs[i]? = some v := by
    cases hg : vs[i]? with
    | none => rw [hg] at hi; cases hi
    | some w => rw [hg] at hi; simpa using hi
  have := lv_args_at vs 0 i v (fun w hw => by simpa using List.all_eq_true.mp hcat w hw) h9
  simpa using this
/-- a lambda made -/
theorem z_indy (X : zX C cc own nL ret d mc ms post) {i : Nat} {x : MethodName} {idxS : Nat} {σ : Lambda.Shape} (hN : C.2.2.2.2.1.methodNamed? x = some C.2.2.2.2.2.1) (hs : lamSites.find? (fun z => z.1 == i) = some (i, .lambdaSite x pc idxS σ))
    {bytes : ByteArray} {mLf : Nat} {rt : Option FieldType} {iT cT : Nat} {fi : List Nat} {tys : Array FieldType} (hok : lamOK σ x.cls bytes mLf rt iT cT fi tys) {vs st0 : List Value} (hd : decode cc pc = .ok (.invokedynamic idxS, 5)) (hn : pc + 5 = pc') (hst : st0 = vs.reverse ++ st)
    (hcap : σ.captured.length = vs.length) (hsz : tys.size = vs.length) (hnar : ((tys.toList.zip vs).map fun (t, v) => narrow t v) = vs) (hfit : (tys.toList.zip vs).all (fun z => fits z.1 z.2) = true) (hcat : (st0.map fun v => v.category).sum ≤ 8) (hdd : 77 ≤ d) (hk : k + 1 ≤ mc) (hm : n + vs.length ≤ ms)
    (kk : ∀ q h2, h1 q = none → h2 = hset h1 q (zLm i vs) → ZP C nL (zAt h2) (k + 1) (n + vs.length) L pc' (vR q :: st)) : ZP C nL (zAt h1) k n L pc st0 := by
  obtain ⟨p, l, e, R, s, m, args, below, meth, c, g, Q⟩ := C
  obtain ⟨hx, hb, hml, hown, hts, hret, hlk, hK, hR, hQ⟩ := X
  subst hn
  intro h H locs cells slots ls g1 h2 h3 h4 h5 h6
  have g1 : h = h1 := g1
  subst g1
  have hR' : R = zrm d mc ms := hR
  subst hR'
  obtain ⟨D, fwd, lay, nT, n2, e1, e2, e3, e4, e5, e6, e7, e8, e9⟩ := hok
  obtain ⟨m', k0, i0, p0, kK, tk, file, methk, ck, toy, t, cf, ⟨f1, f2, f3, f4, f5⟩, ⟨f6, -, -, -, f7, f8⟩, -, -, -⟩ := lam_made (hK.lam hs) (lam_obj (hts _ q2739)) e1 e2 e3 e4 e5 e6 e7 e8 e9
  cases f1.symm.trans hN
  obtain ⟨bsm, nt, desc, site, hc, hnt, hsite, hpar⟩ := lam_site f5
  intro T hT Xs
  have hlen : (((kK.instanceTypes.toList.zip vs).map fun (t, v) => narrow t v)).length = vs.length := by rw [f7, hnar]
  obtain ⟨X₁, st1⟩ := Xs.lambdaMakes hx (g := F0 m pc ls st0) rfl (h6.1.trans hml.symm) (by show decode c.code pc = _; rw [hb]; exact hd) (vals := vs) (rest := st) f2 f3 f4 hc hnt (parseLong_of_parse hsite) (by rw [hpar]; exact hcap.symm) hst f6
    (by rw [Xs.admits.platform]; show 2 * 0 + (st0.map fun v => v.category).sum + 3072 ≤ 40 * d; omega) (by show cells + 1 ≤ mc; omega) (by rw [hlen]; show slots + vs.length ≤ ms; omega)
    (fun i v hv => by
      rw [f7, hnar] at hv
      have hv' : vs[i]? = some v := by simpa using hv
      have hl := (List.getElem?_eq_some_iff.mp hv').1
      have ht : tys[i]? = some tys[i] := Array.getElem?_eq_getElem (by omega)
      have hz : (tys.toList.zip vs)[i]? = some (tys[i], v) := by
        rw [List.getElem?_zip_eq_some]
        exact ⟨by rw [Array.getElem?_toList]; exact ht, hv'⟩
      have hf := List.all_eq_true.mp hfit _ (List.mem_of_getElem? hz)
      simp only [State.fitsSlot, State.slotType?, f6, f8, f7, ht, Option.bind_eq_bind, Option.bind_some]
      exact hf)
  have ev : ((kK.instanceTypes.toList.zip vs).map fun (t, v) => narrow t v) = vs := by rw [f7, hnar]
  rw [ev] at X₁ st1
  subst hT
  have hsize : (T.pushCell { cls := g.2.2 (20 + i), slots := vs.toArray, vm := .none }).heap[T.heap.size]? = some { cls := g.2.2 (20 + i), slots := vs.toArray, vm := .none } := State.heap_pushCell_size _ _
  have hold : ∀ x, x < T.heap.size → (T.pushCell { cls := g.2.2 (20 + i), slots := vs.toArray, vm := .none }).heap[x]? = T.heap[x]? := fun x hx => State.heap_pushCell_of_lt _ _ hx
  have hgrow : (T.pushCell { cls := g.2.2 (20 + i), slots := vs.toArray, vm := .none }).heap.size = T.heap.size + 1 := by simp [State.pushCell]
  obtain ⟨t9, a1, b1⟩ := kk T.heap.size _ (h2.none (Nat.le_refl _)) rfl (hset h T.heap.size (zLm i vs)) (T.pushCell { cls := g.2.2 (20 + i), slots := vs.toArray, vm := .none }).heap locs (cells + 1) (slots + vs.length) ls rfl (h2.push rfl (Nat.le_trans hK.1 h3.1) hsize hold)
    ⟨by have := h3.1; omega, fun x a b => (hold x (Nat.lt_of_lt_of_le a h3.1)).trans (h3.2.1 x a b), h3.2.2⟩ (by omega) (by omega) h6 _ rfl (by simpa using X₁)
  exact ⟨t9, st1 _ a1, b1⟩
end ZLAM2
