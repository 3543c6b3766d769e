/-! LAMBDAS: the body of a made class's method; a call of it -/
section ZLAM3
variable {C : ZC} {cc : ByteArray} {own : String} {nL : Nat} {ret : Option FieldType} {d mc ms : Nat} {post : Option Value → GH → Prop} {px : String → GH → Prop} {k n : Nat} {L : List (Option Value)} {pc pc' : Nat} {st : List Value} {h1 : GH}
theorem lam_sel {U : State} {args : Array Value} {x : MethodName} {pcS idxS : Nat} {σ : Lambda.Shape} {cK : ClassId} {one : Option Addr} (hat : U.lambdaAt? x pcS idxS σ = some (cK, one)) (hw : (Cond.interfaceMethod σ.iface σ.iface σ.name σ.sam.toString).before args U = true) {r0 : MethodId} {r : Method} (hn : U.methodNamed? ⟨σ.iface, σ.name, σ.sam.toString⟩ = some r0) (hr : U.vm.method? r0 = some r) :
    U.vm.assignable cK r0.cls = true ∧ selectMethod {} U.vm cK r0 = .method ⟨cK, 1⟩ ∧ ((cK :: U.vm.superclasses cK).any fun k => (declaredIn U.vm r.name r.desc k).any fun (_, z) => z.isPrivate || z.isStatic) = false := by
  obtain ⟨m, k0, cf0, i0, p0, lk, -, hk0, -, -, -, -, hmade, hcan, -⟩ := State.lambdaAt?_spec hat
  obtain ⟨cL, kL, r1, hcL, hkL, hiL, hfoundL, hn1⟩ := Cond.interfaceMethod_spec hw
  cases hn.symm.trans hn1
  have hr0cls : r0.cls = cL := Option.some.inj ((findClass_of_methodNamed hn).symm.trans hcL)
  obtain ⟨hnameR, hdescR⟩ := name_of_methodNamed hn hr
  obtain ⟨-, -, -, -, -, -, -, iface', -, -, -, -, found, -, -, -, -, -, hi', -, -, -, -, -, -, hfound', -, -, -, -, -, -, -, -, -, -, hsel⟩ := Lambda.isMade_spec hmade
  cases hcL.symm.trans hi'
  have hfr : found = r0 := by
    have h1 : U.methodFound? σ.iface σ.name σ.sam.toString = some r0 := hfoundL
    simp only [State.methodFound?, hcL, hkL, hiL, Option.bind_eq_bind, Option.bind_some] at h1
    rw [hfound'] at h1
    exact Option.some.inj h1
  subst hfr
  obtain ⟨i2, hi2, hasg, hway⟩ := State.lambdaCallable_spec hcan
  cases hcL.symm.trans hi2
  exact ⟨by rw [hr0cls]; exact hasg, hsel, by rw [hnameR, hdescR]; exact hway⟩
/-- the fixed facts of a walk in a class that no name finds -/
def zXf (C : ZC) (cc : ByteArray) (nL : Nat) (ret : Option FieldType) (d mc ms : Nat) (post : Option Value → GH → Prop) : Prop :=
  C.1.tables.exec = Jvm.exec ∧ C.2.2.2.2.2.2.2.2.2.1.code = cc ∧ C.2.2.2.2.2.2.2.2.2.1.maxLocals = nL ∧ (∀ w ∈ lw_all, w.before C.2.2.2.2.2.2.1 C.2.2.2.2.1 = true) ∧
  C.2.2.2.2.2.2.2.2.1.sig.returnType = ret ∧ C.2.2.2.2.2.2.2.2.1.locks = false ∧ zK C.2.2.2.2.2.2.2.2.2.2.1 C.2.2.2.2.1 ∧ C.2.2.2.1 = zrm d mc ms ∧
  (∀ H locs cells slots f, W C.1 C.2.1 C.2.2.1 C.2.2.2.1 C.2.2.2.2.1 C.2.2.2.2.2.1 C.2.2.2.2.2.2.1 C.2.2.2.2.2.2.2.1 C.2.2.2.2.2.2.2.2.1 C.2.2.2.2.2.2.2.2.2.1 H locs cells slots (MQ C.2.2.2.2.2.2.2.1 (zQc C.2.2.2.2.2.2.2.2.2.2.1 post) C.2.2.2.2.2.2.1 C.2.2.2.2.1 mc ms (zA C.2.2.2.2.2.2.2.2.2.2.1)) f → zWw C H locs cells slots f)
/-- the method of site i's class, walked -/
def zLam (l : Launch) (i : Nat) (bytes : ByteArray) (mLf d mc ms a : Nat) (argsL : List Value) (g : zG) (h : GH) (P : Option Value → GH → Prop) : Prop :=
  ∀ C : ZC, zg C = g → C.2.1 = l → C.2.2.2.2.2.1 = ⟨g.2.2 (20 + i), 1⟩ → zXf C bytes mLf (some .boolean) d mc ms P → ZP C mLf (zAt h) 0 0 ((vR a :: argsL).map some) 0 []
theorem zf_aload (X : zXf C cc nL ret d mc ms post) {i a : Nat} {kk9 : Fin 4} (hd : decode cc pc = .ok (.aload_n kk9, 1)) (hi : (kk9 : Nat) = i) (hl : L[i]? = some (some (vR a))) (kk : ZP C nL (zAt h1) k n L (pc + 1) (vR a :: st)) : ZP C nL (zAt h1) k n L pc st := by
  obtain ⟨p, l, e, R, s, m, args, below, meth, c, g, Q⟩ := C
  obtain ⟨hx, hb, hml, hts, hret, hlk, hK, hR, hQ⟩ := X
  intro h H locs cells slots ls g1 h2 h3 h4 h5 h6
  exact lv_aload_n hx hb hd hi (h6.2.2 i _ hl) (kk h H locs cells slots ls g1 h2 h3 h4 h5 h6)
theorem zf_zret {ty : FieldType} (X : zXf C cc nL (some ty) d mc ms post) {a : Int} (hd : decode cc pc = .ok (.ireturn, 1)) (ha : narrow ty (vI a) = vI a) (hk : k ≤ mc) (hn : n ≤ ms) (hp : post (some (vI a)) h1) : ZP C nL (zAt h1) k n L pc [vI a] := by
  obtain ⟨p, l, e, R, s, m, args, below, meth, c, g, Q⟩ := C
  obtain ⟨hx, hb, hml, hts, hret, hlk, hK, hR, hQ⟩ := X
  intro h H locs cells slots ls g1 h2 h3 h4 h5 h6
  have g1 : h = h1 := g1
  subst g1
  refine hQ H locs cells slots _ ?_
  refine W.widen (k := mc) (n := ms) (Nat.le_trans h4 hk) (Nat.le_trans h5 hn) ?_
  exact W.zret (v := jI a) hx hb hret ha (fun t ht hW => ⟨⟨_, h, rfl, hp, by rw [ht]; exact h2⟩, h3.F ht⟩) h3.2.2 hd
/-- a captured value read -/
theorem zf_get (X : zXf C cc nL ret d mc ms post) {i : Nat} {x : MethodName} {pcS idxS : Nat} {σ : Lambda.Shape} (hm : C.2.2.2.2.2.1 = ⟨(zg C).2.2 (20 + i), 1⟩) (hs : lamSites.find? (fun z => z.1 == i) = some (i, .lambdaSite x pcS idxS σ))
    {bytes : ByteArray} {mLf : Nat} {rt : Option FieldType} {iT cT : Nat} {fi : List Nat} {tys : Array FieldType} (hok : lamOK σ x.cls bytes mLf rt iT cT fi tys) {vs : List Value} {a j : Nat} {v : Value} (hj : j < fi.length) (hh : h1 a = some (zLm i vs)) (hv : vs[j]? = some v)
    (hd : decode cc pc = .ok (.getfield (fi.getD j 0), 3)) (kk : ZP C nL (zAt h1) k n L (pc + 3) (v :: st)) : ZP C nL (zAt h1) k n L pc (vR a :: st) := by
  obtain ⟨p, l, e, R, s, m, args, below, meth, c, g, Q⟩ := C
  obtain ⟨hx, hb, hml, hts, hret, hlk, hK, hR, hQ⟩ := X
  intro h H locs cells slots ls g1 h2 h3 h4 h5 h6
  have g1 : h = h1 := g1
  subst g1
  have hm : m = ⟨g.2.2 (20 + i), 1⟩ := hm
  subst hm
  intro T hT Xs
  obtain ⟨t, a1, b1⟩ := kk h H locs cells slots ls rfl h2 h3 h4 h5 h6 T hT Xs
  have hKT : zK g T := hK.S (U := T) Xs.warmed (by rw [hT]; exact h3)
  obtain ⟨D, fwd, lay, nT, n2, e1, e2, e3, e4, e5, e6, e7, e8, e9⟩ := hok
  obtain ⟨m', k0, i0, p0, kK, tk, file, methk, ck, toy, t0, cf, -, -, -, -, hf⟩ := lam_made (hKT.lam hs) (lam_obj (warm_words (a' := #[]) Xs.warmed hts _ q2739)) e1 e2 e3 e4 e5 e6 e7 e8 e9
  obtain ⟨fld, hf1, hf2, hf3⟩ := hf j hj
  generalize fi.getD j 0 = gi at hd hf1
  have hc : T.heap[a]? = some { cls := g.2.2 (20 + i), slots := vs.toArray, vm := .none } := by rw [hT]; exact (h2 a _ hh).2
  refine ⟨t, ?_, b1⟩
  have hdg : decode c.code pc = .ok (.getfield gi, 3) := by rw [hb]; exact hd
  jvm_step Xs.here [Xs.here.top, hx, hdg, Op.getfield.wp_ready (e := e) (s := T) (c := g.2.2 (20 + i)) (field := fld) (a := a) (rest := st) (cell := { cls := g.2.2 (20 + i), slots := vs.toArray, vm := .none }) (v := v) (f := F0 ⟨g.2.2 (20 + i), 1⟩ pc ls (vR a :: st)) Xs.here.top hf1 hf2 rfl hc (by intro h; cases h) (by rw [hf3]; simpa using hv)]
  exact a1
end ZLAM3
