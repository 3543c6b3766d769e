/-! LAMBDAS: calls -/
section ZLAM4
variable {C : ZC} {cc : ByteArray} {own : String} {nL : Nat} {ret : Option FieldType} {d mc ms : Nat} {post : Option Value → GH → Prop} {px : String → GH → Prop} {k n : Nat} {L : List (Option Value)} {pc pc' : Nat} {st : List Value} {h1 : GH}
theorem into_bod {p : Program} {l : Launch} {e : Env} {s : State} {m : MethodId} {args : Array Value} {below : List Frame} {meth : Method} {c : Code} {T : State} {locs : List Loc} {cells slots d mc ms : Nat} {g : zG} (hx : p.tables.exec = Jvm.exec) (Xs : Stand p l e (zrm d mc ms) s m args below meth c T locs cells slots) (hts : ∀ w ∈ lw_all, w.before args s = true) (hK : zK g s) {h : GH} (h2 : zH g h T.heap) (h3 : va_S (zA g) s.heap T.heap locs)
    {g0 : JFrame} (hg0 : g0.method = m) (hsize : g0.locals.size = c.maxLocals) (hmon : g0.monitorRoom = 0) {ig : Jvm.ClassFile.Instr} {len : Nat} (hdg : decode c.code g0.pc = .ok (ig, len)) {mk : MethodId} {methM : Method} {cM : Code} {cy : ByteArray} {mL : Nat} {rt : Option FieldType} {dy mcy msy : Nat} {vs : List Value} {P : Option Value → GH → Prop}
    (hmk : T.vm.method? mk = some methM) (hcM : methM.code = some cM) (hbM : cM.code = cy) (hlM : cM.maxLocals = mL) (hrM : methM.sig.returnType = rt) (hkM : methM.locks = false) (hpk : T.plainMethod mk) (hmL : mL ≤ 21) (hcat : (g0.stack.map fun v => v.category).sum ≤ 8) (hdd : dy + 1 ≤ d) (hc : cells + mcy ≤ mc) (hs : slots + msy ≤ ms) (hcv : vs.all (fun v => v.category == 1) = true) (hlv : (lg_sl vs).length ≤ mL)
    (hM : ∀ C : ZC, zg C = g → C.2.1 = l → C.2.2.2.2.2.1 = mk → C.2.2.2.2.1.vm = T.vm → zXf C cy mL rt dy mcy msy P → ZP C mL (zAt h) 0 0 (vs.map some ++ List.replicate (mL - vs.length) none) 0 []) :
    ∃ (v : Option Value) (h' : GH) (T' : State) (L9 : List Loc), Stand p l e (zrm d mc ms) s m args below meth c T' (locs ++ L9) (cells + mcy) (slots + msy) ∧ P v h' ∧ zH g h' T'.heap ∧ va_S (zA g) s.heap T'.heap (locs ++ L9) ∧
      ∀ acts, Steps p.tables e below (doInvoke e (T.setTop g0) acts mk vs.toArray).1 (T'.setTop { g0 with pc := g0.pc + len, stack := v.toList ++ g0.stack }) := by
  have hlE := lv_entry vs hlv
  obtain ⟨v1, t, T', L9, X', hL, e1, e2, ⟨⟨v', h', hv, hp, hHt⟩, hF⟩, hst2⟩ := into_run Xs (g := g0) hg0 hsize hdg vs.toArray (R' := zrm dy mcy msy) hmk hcM hkM hpk
    (by show dy + 1 ≤ d; exact hdd) (by rw [hmon, hlM]; show 2 * 0 + _ + (mL + 11) + 40 * dy ≤ 40 * d; omega) (by show cells + mcy ≤ mc; omega) (by show slots + msy ≤ ms; omega) (Qc := zQc g P) (mc := mcy) (ms := msy) (free := zA g) (by
      rw [hlM, lg_entry_eq]
      refine hM (p, l, e, zrm dy mcy msy, T.calling g0 mk vs.toArray, mk, vs.toArray, .java g0 :: below, methM, cM, g, MQ (.java g0 :: below) (zQc g P) vs.toArray (T.calling g0 mk vs.toArray) mcy msy (zA g)) rfl rfl rfl rfl
        ⟨hx, hbM, hlM, warm_words (U := T.calling g0 mk vs.toArray) Xs.warmed hts, hrM, hkM, (hK.S (U := T) Xs.warmed h3).calling _ _ _, rfl, fun _ _ _ _ _ hw => hw⟩ h T.heap [] 0 0 _ rfl h2 va_S.rf (Nat.le_refl 0) (Nat.le_refl 0) (zL.of_args hlE fun i w hi => ?_)
      have hlt : i < vs.length := by
        rcases Nat.lt_or_ge i vs.length with q | q
        · exact q
        · rw [List.getElem?_append_right (by simpa using q)] at hi
          simp [List.getElem?_replicate] at hi
      rw [List.getElem?_append_left (by simpa using hlt), List.getElem?_map] at hi
      have h9 : vs[i]? = some w := by
        cases hgi : vs[i]? with
        | none => rw [hgi] at hi; cases hi
        | some z => rw [hgi] at hi; simpa using hi
      have := lv_args_at vs 0 i w (fun z hz => by simpa using List.all_eq_true.mp hcv z hz) h9
      simpa using this)
  have ev : v1 = v' := Outcome.returned.inj hv
  obtain ⟨k1, k2, k3⟩ := vx_keep (A0 := zA g) (free := zA g) (st₀ := T.calling g0 mk vs.toArray) rfl e1 h3 (fun _ _ h => h) (fun _ h => h) hL hF
  exact ⟨v1, h', T', L9, X', by rw [ev]; exact hp, by rw [e1]; exact hHt, k3, hst2⟩
/-- a body that its class's name finds, as one that none finds -/
theorem zBod.f {l : Launch} {own : String} {cy : ByteArray} {mL : Nat} {rt : Option FieldType} {dy mcy msy : Nat} {vs : List Value} {g : zG} {h : GH} {P : Option Value → GH → Prop} (hM : zBod l own cy mL rt dy mcy msy vs g h P) {T : State} {mk : MethodId} (hf : T.vm.findClass own = some mk.cls) :
    ∀ C : ZC, zg C = g → C.2.1 = l → C.2.2.2.2.2.1 = mk → C.2.2.2.2.1.vm = T.vm → zXf C cy mL rt dy mcy msy P → ZP C mL (zAt h) 0 0 (vs.map some ++ List.replicate (mL - vs.length) none) 0 [] := fun C hg hl hm hv X => by
  obtain ⟨hx, hb, hml, hts, hret, hlk, hK, hR, hQ⟩ := X
  exact hM C hg hl ⟨hx, hb, hml, by rw [hv, hm]; exact hf, hts, hret, hlk, hK, hR, hQ⟩
/-- what a made class's target is -/
theorem lam_tgt {g : zG} {U : State} (hK : zK g U) (hts : ∀ w ∈ lw_all, w.before #[] U = true) {i : Nat} {x : MethodName} {pcS idxS : Nat} {σ : Lambda.Shape} (hs : lamSites.find? (fun z => z.1 == i) = some (i, .lambdaSite x pcS idxS σ))
    {bytes : ByteArray} {mLf : Nat} {rt : Option FieldType} {iT cT : Nat} {fi : List Nat} {tys : Array FieldType} (hok : lamOK σ x.cls bytes mLf rt iT cT fi tys) {y : MethodName} (hy : (σ.implClass, σ.implName, σ.implDesc.toString) = (y.cls, y.name, y.desc)) (hyc : y.cls ≠ "java/lang/invoke/MethodHandle" ∧ y.cls ≠ "java/lang/invoke/VarHandle") {mB : MethodId} (hnB : U.methodNamed? y = some mB) :
    ∃ (kK tk : Class) (file D : Jvm.ClassFile.ClassFile) (nT : Nat), U.vm.classes[g.2.2 (20 + i)]? = some kK ∧ kK.cf = some file ∧ file.constantPool = D.constantPool ∧ (D.constantPool[iT]? = some (.methodref cT nT) ∧ D.constantPool.nameAndType? nT = some (y.name, y.desc)) ∧ U.vm.findClass y.cls = some mB.cls ∧ U.vm.classes[mB.cls]? = some tk ∧ tk.name = y.cls ∧ tk.isInterface = σ.implItf ∧ U.vm.methodReady (g.2.2 (20 + i)) iT mB ∧ U.vm.classReady (g.2.2 (20 + i)) cT mB.cls := by
  obtain ⟨D, fwd, lay, nT, n2, e1, e2, e3, e4, e5, e6, e7, e8, e9⟩ := hok
  obtain ⟨m', k0, i0, p0, kK, tk, file, methk, ck, toy, t0, cf, -, ⟨b1, -, b3, b4, -, -⟩, -, ⟨c1, c2, c3, c4, c5, c6⟩, -⟩ := lam_made (hK.lam hs) (lam_obj (hts _ q2739)) e1 e2 e3 e4 e5 e6 e7 e8 e9
  simp only [Prod.mk.injEq] at hy
  obtain ⟨y1, y2, y3⟩ := hy
  rw [y1] at c1
  rw [y2, y3] at c4
  rw [y2, y3] at e6
  have hfT := findClass_of_methodNamed hnB
  cases c1.symm.trans hfT
  obtain ⟨kT', hkT', hnameT⟩ := className_of_methodNamed hnB
  cases c2.symm.trans hkT'
  have htB : t0 = mB := by
    have h1 : U.methodFound? y.cls y.name y.desc = some mB := State.methodFound?_of_named hnB hyc
    simp only [State.methodFound?, hfT, c2, Option.bind_eq_bind, Option.bind_some] at h1
    rw [c4] at h1
    exact Option.some.inj h1
  subst htB
  exact ⟨kK, tk, file, D, nT, b1, b3, b4, ⟨e6.1, e6.2.2⟩, hfT, c2, hnameT, c3, c5, c6⟩
theorem plain_poly {k : Class} {m : Method} (h : plainName k.name = true) (h2 : k.name ≠ "java/lang/invoke/MethodHandle" ∧ k.name ≠ "java/lang/invoke/VarHandle") : signaturePolymorphic k m = false := by
  simp [signaturePolymorphic, h2.1, h2.2]
/-- the target called, a static one -/
theorem zf_callS (X : zXf C cc nL ret d mc ms post) {i : Nat} {x : MethodName} {pcS idxS : Nat} {σ : Lambda.Shape} (hm : C.2.2.2.2.2.1 = ⟨(zg C).2.2 (20 + i), 1⟩) (hs : lamSites.find? (fun z => z.1 == i) = some (i, .lambdaSite x pcS idxS σ))
    {bytes : ByteArray} {mLf : Nat} {rt0 : Option FieldType} {iT cT : Nat} {fi : List Nat} {tys : Array FieldType} (hok : lamOK σ x.cls bytes mLf rt0 iT cT fi tys) {y : MethodName} (hy : (σ.implClass, σ.implName, σ.implDesc.toString) = (y.cls, y.name, y.desc)) (hyp : plainName y.cls = true) (hyc : y.cls ≠ "java/lang/invoke/MethodHandle" ∧ y.cls ≠ "java/lang/invoke/VarHandle")
    {cy : ByteArray} {mL N dy mcy msy : Nat} {rt : Option FieldType} {vs : List Value} {P : Option Value → GH → Prop} (w1 : Cond.static y ∈ lw_all) (w2 : Cond.code y cy mL rt ∈ lw_all) (w3 : Cond.initialized y.cls ∈ lw_all) (hN : (parseMethodDescriptor y.desc).map (fun d => d.parameters.length) = some N)
    (hd : decode cc pc = .ok (.invokestatic iT, 3)) (hn : pc + 3 = pc') (hmL : mL ≤ 21) (hdd : dy + 1 ≤ d) (hk : k + mcy ≤ mc) (hms : n + msy ≤ ms) (hlen : vs.length = N) (hcat : (st.map fun v => v.category).sum ≤ 8) (hcv : vs.all (fun v => v.category == 1) = true) (hlv : (lg_sl vs).length ≤ mL)
    (hM : zBod C.2.1 y.cls cy mL rt dy mcy msy vs (zg C) h1 P) (kk : ∀ v h2, P v h2 → ZP C nL (zAt h2) (k + mcy) (n + msy) L pc' (zst v st)) : ZP C nL (zAt h1) k n L pc (vs.reverse ++ st) := by
  obtain ⟨p, l, e, R, s, m, args, below, meth, c, g, Q⟩ := C
  obtain ⟨hx, hb, hml, hts, hret, hlk, hK, hR, hQ⟩ := X
  subst hn
  intro h H locs cells slots ls g1 h2 h3 h4 h5 h6
  have g1 : h = h1 := g1
  subst g1
  have hR' : R = zrm d mc ms := hR
  subst hR'
  have hm : m = ⟨g.2.2 (20 + i), 1⟩ := hm
  subst hm
  intro T hT Xs
  subst hT
  have hKT : zK g T := hK.S (U := T) Xs.warmed h3
  have htT : ∀ w ∈ lw_all, w.before #[] T = true := warm_words (a' := #[]) Xs.warmed hts
  cases hnB : T.methodNamed? y with
  | none =>
    have := htT _ w2
    simp [Cond.before, Cond.holds, Cond.value, hnB] at this
  | some mB =>
  obtain ⟨methB, cB, hmB, hcB, hbB, hlB, hrB, hkB, -, hsigB⟩ := Cond.code_spec hnB (htT _ w2)
  have hstB : methB.isStatic = true := Cond.static_spec hnB hmB (htT _ w1)
  obtain ⟨kK, tk, file, D, nT, b1, b2, b3, b4, c1, c2, c3, c4, c5, c6⟩ := lam_tgt hKT htT hs hok hy hyc hnB
  have hinit : tk.init = .initialized := Cond.initialized_spec c1 c2 (htT _ w3)
  obtain ⟨b, hmem⟩ := memberRef_ask' (e := e) (vm := T.vm) (d := g.2.2 (20 + i)) (index := iT) b1 b2 (Or.inl (by rw [b3]; exact b4.1)) (by rw [b3]; exact b4.2)
  have hsp : ∀ z : Method, signaturePolymorphic tk z = false := fun z => plain_poly (by rw [c3]; exact hyp) (by rw [c3]; exact hyc)
  have hpk : T.plainMethod mB := State.plainMethod.of_name fun k' hk' => by cases c2.symm.trans hk'; rw [c3]; exact hyp
  have hpar : vs.length = methB.sig.parameters.length := by
    have h9 := hN
    rw [hsigB] at h9
    exact hlen.trans (Option.some.inj h9).symm
  have hdg : decode c.code pc = .ok (.invokestatic iT, 3) := by rw [hb]; exact hd
  obtain ⟨v, h', T', L9, X', hp, hH', hS', hst⟩ := into_bod hx Xs hts hK h2 h3 (g0 := F0 ⟨g.2.2 (20 + i), 1⟩ pc ls st) rfl (h6.1.trans hml.symm) rfl hdg hmB hcB hbB hlB hrB hkB hpk hmL hcat hdd (by omega) (by omega) hcv hlv (hM.f c1)
  obtain ⟨t, a1, b1'⟩ := kk v h' hp h' T'.heap (locs ++ L9) (cells + mcy) (slots + msy) ls rfl hH' hS' (by omega) (by omega) h6 T' rfl X'
  refine ⟨t, ?_, b1'⟩
  jvm_step Xs.here [Xs.here.top, hx, hdg, Op.invokestatic.wp_ready (e := e) (s := T) (m := mB) (k := tk) (meth := methB) (args := vs) (rest := st) (f := F0 ⟨g.2.2 (20 + i), 1⟩ pc ls (vs.reverse ++ st)) Xs.here.top ⟨cT, _, _, b, mB.cls, tk, hmem, c6, c2, by simp [hsp]⟩ c5 c2 hmB (hsp _) hstB hinit hpar rfl]
  intro acts
  refine (hst acts).trans ?_
  rw [zst_eq]
  exact a1
/-- the target called, one of the object's own -/
theorem zf_callV (X : zXf C cc nL ret d mc ms post) {i : Nat} {x : MethodName} {pcS idxS : Nat} {σ : Lambda.Shape} (hm : C.2.2.2.2.2.1 = ⟨(zg C).2.2 (20 + i), 1⟩) (hs : lamSites.find? (fun z => z.1 == i) = some (i, .lambdaSite x pcS idxS σ))
    {bytes : ByteArray} {mLf : Nat} {rt0 : Option FieldType} {iT cT : Nat} {fi : List Nat} {tys : Array FieldType} (hok : lamOK σ x.cls bytes mLf rt0 iT cT fi tys) {y : MethodName} (hy : (σ.implClass, σ.implName, σ.implDesc.toString) = (y.cls, y.name, y.desc)) (hyp : plainName y.cls = true) (hyc : y.cls ≠ "java/lang/invoke/MethodHandle" ∧ y.cls ≠ "java/lang/invoke/VarHandle")
    {cy : ByteArray} {mL N dy mcy msy : Nat} {rt : Option FieldType} {vs : List Value} {P : Option Value → GH → Prop} (w1 : Cond.instanceMethod y ∈ lw_all) (w2 : Cond.code y cy mL rt ∈ lw_all) (w3 : Cond.selects y.cls y y ∈ lw_all) (hitf : σ.implItf = false) {bq ci Nf : Nat} {Tf : u_T} (hcl : zCl[ci]? = some (y.cls, Tf, Nf)) (hh : ∃ fs, h1 bq = some (zO ci fs)) (hN : (parseMethodDescriptor y.desc).map (fun d => d.parameters.length) = some N)
    (hd : decode cc pc = .ok (.invokevirtual iT, 3)) (hn : pc + 3 = pc') (hmL : mL ≤ 21) (hdd : dy + 1 ≤ d) (hk : k + mcy ≤ mc) (hms : n + msy ≤ ms) (hlen : vs.length = N) (hcat : (st.map fun v => v.category).sum ≤ 8) (hcv : (vR bq :: vs).all (fun v => v.category == 1) = true) (hlv : (lg_sl (vR bq :: vs)).length ≤ mL)
    (hM : zBod C.2.1 y.cls cy mL rt dy mcy msy (vR bq :: vs) (zg C) h1 P) (kk : ∀ v h2, P v h2 → ZP C nL (zAt h2) (k + mcy) (n + msy) L pc' (zst v st)) : ZP C nL (zAt h1) k n L pc (vs.reverse ++ vR bq :: st) := by
  obtain ⟨p, l, e, R, s, m, args, below, meth, c, g, Q⟩ := C
  obtain ⟨hx, hb, hml, hts, hret, hlk, hK, hR, hQ⟩ := X
  subst hn
  intro h H locs cells slots ls g1 h2 h3 h4 h5 h6
  have g1 : h = h1 := g1
  subst g1
  have hR' : R = zrm d mc ms := hR
  subst hR'
  have hm : m = ⟨g.2.2 (20 + i), 1⟩ := hm
  subst hm
  intro T hT Xs
  subst hT
  have hKT : zK g T := hK.S (U := T) Xs.warmed h3
  have htT : ∀ w ∈ lw_all, w.before #[] T = true := warm_words (a' := #[]) Xs.warmed hts
  cases hnB : T.methodNamed? y with
  | none =>
    have := htT _ w2
    simp [Cond.before, Cond.holds, Cond.value, hnB] at this
  | some mB =>
  obtain ⟨methB, cB, hmB, hcB, hbB, hlB, hrB, hkB, -, hsigB⟩ := Cond.code_spec hnB (htT _ w2)
  obtain ⟨mk9, methM9, hnamed9, hmethM9, hstB, habB⟩ := Cond.instanceMethod_spec (htT _ w1)
  cases hnB.symm.trans hnamed9
  cases hmB.symm.trans hmethM9
  obtain ⟨c9, r9, m9, q1, q2, q3, q4, kP, hkP, hkPi⟩ := Cond.selects_spec (htT _ w3)
  cases hnB.symm.trans q3
  have hr9 : mB = r9 := (Option.some.inj (q2.symm.trans (State.methodFound?_of_named hnB hyc))).symm
  subst hr9
  obtain ⟨fs9, hh9⟩ := hh
  obtain ⟨cell, hcell, hvm8, hcls⟩ := z_recv hKT h2 hcl hh9
  have hvm9 : ∀ z, cell.vm ≠ .statics z := fun z hz => by rw [hz] at hvm8; cases hvm8
  cases q1.symm.trans hcls
  obtain ⟨kK, tk, file, D, nT, b1, b2, b3, b4, c1, c2, c3, c4, c5, c6⟩ := lam_tgt hKT htT hs hok hy hyc hnB
  have hsp : ∀ z : Method, signaturePolymorphic tk z = false := fun z => plain_poly (by rw [c3]; exact hyp) (by rw [c3]; exact hyc)
  have hpk : T.plainMethod mB := State.plainMethod.of_name fun k' hk' => by cases c2.symm.trans hk'; rw [c3]; exact hyp
  have hpar : vs.length = methB.sig.parameters.length := by
    have h9 := hN
    rw [hsigB] at h9
    exact hlen.trans (Option.some.inj h9).symm
  have hdg : decode c.code pc = .ok (.invokevirtual iT, 3) := by rw [hb]; exact hd
  obtain ⟨v, h', T', L9, X', hp, hH', hS', hst⟩ := into_bod hx Xs hts hK h2 h3 (g0 := F0 ⟨g.2.2 (20 + i), 1⟩ pc ls st) rfl (h6.1.trans hml.symm) rfl hdg hmB hcB hbB hlB hrB hkB hpk hmL hcat hdd (by omega) (by omega) hcv hlv (hM.f c1)
  obtain ⟨t, a1, b1'⟩ := kk v h' hp h' T'.heap (locs ++ L9) (cells + mcy) (slots + msy) ls rfl hH' hS' (by omega) (by omega) h6 T' rfl X'
  refine ⟨t, ?_, b1'⟩
  jvm_step Xs.here [Xs.here.top, hx, hdg, Op.invokevirtual.wp_named (e := e) (s := T) (c' := mB.cls) (k := tk) (k' := tk) (mk := kP) (r := mB) (m := mB) (rmeth := methB) (meth := methB) (a := bq) (cell := cell) (args := vs) (rest := st) (f := F0 ⟨g.2.2 (20 + i), 1⟩ pc ls (vs.reverse ++ vR bq :: st)) Xs.here.top ⟨kK, file, cT, nT, b1, b2, Or.inl (by rw [b3]; exact b4.1), c6⟩ c2 (by rw [c4]; exact hitf) c5 c2 hmB (hsp _) hstB hpar rfl hcell hvm9 (by rw [Launch.admits_selectMethod Xs.admits]; exact q4) hmB habB hkP hkPi]
  intro acts
  refine (hst acts).trans ?_
  rw [zst_eq]
  exact a1
end ZLAM4
