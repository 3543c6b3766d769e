/-! LAMBDAS: a made object called through its interface -/
section ZLAM5
variable {C : ZC} {cc : ByteArray} {own : String} {nL : Nat} {ret : Option FieldType} {d mc ms : Nat} {post : Option Value → GH → Prop} {px : String → GH → Prop} {k n : Nat} {L : List (Option Value)} {pc pc' : Nat} {st : List Value} {h1 : GH}
theorem z_lam (X : zX C cc own nL ret d mc ms post) {i : Nat} {x : MethodName} {pcS idxS : Nat} {σ : Lambda.Shape} (hs : lamSites.find? (fun z => z.1 == i) = some (i, .lambdaSite x pcS idxS σ))
    {bytes : ByteArray} {mLf : Nat} {iT cT : Nat} {fi : List Nat} {tys : Array FieldType} (hok : lamOK σ x.cls bytes mLf (some .boolean) iT cT fi tys) (hpl : plainName (x.cls ++ "$$Lambda") = true) {xi : MethodName} (hxi : (σ.iface, σ.name, σ.sam.toString) = (xi.cls, xi.name, xi.desc)) (hxc : xi.cls ≠ "java/lang/invoke/MethodHandle" ∧ xi.cls ≠ "java/lang/invoke/VarHandle")
    {idx cnt N dy mcy msy a : Nat} {vs argsL st0 : List Value} {P : Option Value → GH → Prop} (hq : Cond.methodLink own idx xi ∈ lw_all) (w1 : Cond.interfaceMethod xi.cls xi.cls xi.name xi.desc ∈ lw_tbl) (w2 : Cond.declares xi ∈ lw_tbl) (hN : (parseMethodDescriptor xi.desc).map (fun d => d.parameters.length) = some N)
    (hd : decode cc pc = .ok (.invokeinterface idx cnt, 5)) (hn : pc + 5 = pc') (hh : h1 a = some (zLm i vs)) (hst : st0 = argsL.reverse ++ vR a :: st) (hlen : argsL.length = N) (hml9 : (vR a :: argsL).length = mLf) (hmL : mLf ≤ 21) (hdd : dy + 1 ≤ d) (hk : k + mcy ≤ mc) (hms : n + msy ≤ ms) (hcat : (st.map fun v => v.category).sum ≤ 8)
    (hcv : (vR a :: argsL).all (fun v => v.category == 1) = true) (hlv : (lg_sl (vR a :: argsL)).length ≤ mLf) (hM : zLam C.2.1 i bytes mLf dy mcy msy a argsL (zg C) h1 P) (kk : ∀ v h2, P v h2 → ZP C nL (zAt h2) (k + mcy) (n + msy) L pc' (zst v st)) : ZP C nL (zAt h1) k n L pc st0 := by
  obtain ⟨p, l, e, R, s, m, args, below, meth, c, g, Q⟩ := C
  obtain ⟨hx, hb, hml, hown, hts, hret, hlk, hK, hR, hQ⟩ := X
  subst hn
  intro h H locs cells slots ls g1 h2 h3 h4 h5 h6
  have g1 : h = h1 := g1
  subst g1
  have hR' : R = zrm d mc ms := hR
  subst hR'
  intro T hT Xs
  subst hT
  have ht0 : ∀ w ∈ lw_all, w.before #[] s = true := warm_words (a' := #[]) (State.WarmedH.refl s) hts
  simp only [Prod.mk.injEq] at hxi
  obtain ⟨y1, y2, y3⟩ := hxi
  have hat := hK.lam hs
  have hfaceB : (Cond.interfaceMethod xi.cls xi.cls xi.name xi.desc).before #[] s = true := hK.facts.2.2.2.2.2.2.1 _ w1 rfl
  obtain ⟨r0, r, hn0, hrm, hstR, hsigR⟩ := va_Decl.abs (hK.facts.2.2.2.2.2.2.1 _ w2 rfl)
  obtain ⟨cL, kL, r1, hcL, hkL, hiL, -, hn1⟩ := Cond.interfaceMethod_spec hfaceB
  cases hn0.symm.trans hn1
  have hr0cls : r0.cls = cL := Option.some.inj ((findClass_of_methodNamed hn0).symm.trans hcL)
  obtain ⟨hasg, hsel, hway⟩ := lam_sel (args := #[]) hat (by rw [y1, y2, y3]; exact hfaceB) (by rw [y1, y2, y3]; exact hn0) hrm
  obtain ⟨D, fwd, lay, nT, n2, e1, e2, e3, e4, e5, e6, e7, e8, e9⟩ := hok
  obtain ⟨m', k0, i0, p0, kK, tk, file, methk, ck, toy, t0, cf, -, ⟨f6, fnm, -, -, f7, f8⟩, ⟨u1, u2, u3, u4, u5, u6, u7⟩, -, -⟩ := lam_made hat (lam_obj (ht0 _ q2739)) e1 e2 e3 e4 e5 e6 e7 e8 e9
  have hc : T.heap[a]? = some { cls := g.2.2 (20 + i), slots := vs.toArray, vm := .none } := (h2 a _ hh).2
  have hpar : argsL.length = r.sig.parameters.length := by
    have h9 := hN
    rw [hsigR] at h9
    exact hlen.trans (Option.some.inj h9).symm
  have hdg : decode c.code pc = .ok (.invokeinterface idx cnt, 5) := by rw [hb]; exact hd
  obtain ⟨vm₁, X₁, hstep₁⟩ := Xs.invokeinterface hx hown (hts _ hq) hn0 hrm hstR (by rw [hr0cls]; exact hkL) hiL hxc (a := a) (cell := { cls := g.2.2 (20 + i), slots := vs.toArray, vm := .none }) (kcell := kK) hc (fun z hz => by cases hz) f6 hasg (m' := ⟨g.2.2 (20 + i), 1⟩) (meth' := methk) (by rw [Launch.admits_selectMethod Xs.admits]; exact hsel) u1 hway
    (by rw [u6]; decide) (by simp [Method.isAbstract, u6, hasFlag, Acc.abstract]) (g := F0 m pc ls st0) rfl (argsL := argsL) (rest := st) hpar hst hdg
  have hal := X₁.warmed.alike
  have hmk1 : (T.setVm vm₁).vm.method? ⟨g.2.2 (20 + i), 1⟩ = some methk := by rw [hal.method?]; exact u1
  have hpk : (T.setVm vm₁).plainMethod ⟨g.2.2 (20 + i), 1⟩ := State.WarmedH.plainAt X₁.warmed fun k' hk' => by rw [f6] at hk'; cases hk'; rw [fnm]; exact hpl
  obtain ⟨v, h', T', L9, X', hp, hH', hS', hst9⟩ := into_bod hx X₁ hts hK (T := T.setVm vm₁) h2 h3 (g0 := F0 m pc ls st) rfl (h6.1.trans hml.symm) rfl hdg hmk1 u2 u3 u4 u7 u5 hpk hmL hcat hdd (by omega) (by omega) (vs := vR a :: argsL) hcv hlv (dy := dy) (mcy := mcy) (msy := msy) (P := P) (fun C' hg hl hm hv Xf => by
    have t := hM C' hg hl hm Xf
    rw [hml9, Nat.sub_self]
    show ZP C' mLf (zAt h) 0 0 ((vR a :: argsL).map some ++ []) 0 []
    rw [List.append_nil]
    exact t)
  obtain ⟨t, a1, b1'⟩ := kk v h' hp h' T'.heap (locs ++ L9) (cells + mcy) (slots + msy) ls rfl hH' hS' (by omega) (by omega) h6 T' rfl X'
  refine ⟨t, hstep₁ _ fun acts => ?_, b1'⟩
  refine (hst9 acts).trans ?_
  rw [zst_eq]
  exact a1
end ZLAM5
