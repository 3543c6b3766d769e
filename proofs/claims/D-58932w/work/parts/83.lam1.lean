/-! LAMBDAS: what is known of the class that a site makes -/
section ZLAM
theorem lam_made {U : State} {cK : ClassId} {x : MethodName} {pcS idxS : Nat} {σ : Lambda.Shape} (hat : U.lambdaAt? x pcS idxS σ = some (cK, none)) (hO : ∀ o ok, U.vm.findClass "java/lang/Object" = some o → U.vm.classes[o]? = some ok → ok.instanceTypes.size = 0)
    {D : ClassFile} {fwd : Method} {lay : Array Field × Array FieldType × Array FieldType} (hfile : σ.file x.cls = some D) (hsec : ∀ ms, layoutMethods D = some ms → ms[1]? = some fwd) (hlay0 : layoutFields D 0 = some lay)
    {bytes : ByteArray} {mL : Nat} {ret : Option FieldType} (hcode0 : (fwd.code.map fun c => (c.code.data, c.maxLocals)) = some (bytes.data, mL)) (hfl0 : (fwd.accessFlags, fwd.sig.returnType) = (0x0001, ret))
    {iT cT nT n2 : Nat} (eM : D.constantPool[iT]? = some (.methodref cT nT) ∧ D.constantPool.className? cT = some σ.implClass ∧ D.constantPool.nameAndType? nT = some (σ.implName, σ.implDesc.toString)) (eC : D.constantPool[cT]? = some (.class_ n2) ∧ D.constantPool.string? n2 = some σ.implClass ∧ cT ≠ D.thisClass)
    {fi : List Nat} (eF : ∀ j, j < fi.length → ∃ nt nm ds, D.constantPool[fi.getD j 0]? = some (.fieldref 2 nt) ∧ D.constantPool.nameAndType? nt = some (nm, ds) ∧ lay.1.findIdx? (·.name == nm) = some j ∧ (lay.1[j]?).map (fun f => (f.isStatic, f.slot)) = some (false, j)) {tys : Array FieldType} (hty0 : lay.2.1 = tys) :
    ∃ (m : MethodId) (k : Class) (i0 p0 : Nat) (kK tk : Class) (file : ClassFile) (methk : Method) (ck : Code) (toy : ClassId) (t : MethodId) (cf : ClassFile),
      (U.methodNamed? x = some m ∧ U.vm.classes[m.cls]? = some k ∧ (k.callSites.find? fun y => y.1 == m.idx && y.2.1 == pcS) = some (i0, p0, .makes cK) ∧ k.cf = some cf ∧ Lambda.shapeOf? cf idxS = some σ) ∧
      (U.vm.classes[cK]? = some kK ∧ kK.name = x.cls ++ "$$Lambda" ∧ kK.cf = some file ∧ file.constantPool = D.constantPool ∧ kK.instanceTypes = tys ∧ kK.kind = .ordinary) ∧
      (U.vm.method? ⟨cK, 1⟩ = some methk ∧ methk.code = some ck ∧ ck.code = bytes ∧ ck.maxLocals = mL ∧ methk.locks = false ∧ methk.accessFlags = 0x0001 ∧ methk.sig.returnType = ret) ∧
      (U.vm.findClass σ.implClass = some toy ∧ U.vm.classes[toy]? = some tk ∧ tk.isInterface = σ.implItf ∧ ((methodIn toy σ.implName σ.implDesc.toString tk.isInterface none).ask { classPath := fun _ => none } U.vm).1 = .ok t ∧ U.vm.methodReady cK iT t ∧ U.vm.classReady cK cT toy) ∧
      ∀ j, j < fi.length → ∃ fld : Field, U.vm.fieldReady cK (fi.getD j 0) cK fld ∧ fld.isStatic = false ∧ fld.slot = j := by
  obtain ⟨m, k0, cf0, i0, p0, lk, hn, hk0, hcf0, hshape, -, hfind, hmade, hcan, hlk⟩ := State.lambdaAt?_spec hat
  obtain ⟨rfl, -, -⟩ : lk = .makes cK ∧ (none : Option Addr) = none ∧ σ.captured ≠ [] := by
    rcases hlk with ⟨a, cell, -, h, -⟩ | h
    · cases h
    · exact h
  have hfc : U.vm.findClass x.cls = some m.cls := findClass_of_methodNamed hn
  obtain ⟨k', hk', hnm⟩ := Vm.findClass_spec hfc
  cases hk0.symm.trans hk'
  obtain ⟨dk', k, ok, tk, file, cf, object, iface, toy, lay', methods, target, found, hd', hk, hfileK, hcf, hobj, -, hok, hlay, hms, ht, htk, hg, -, hrec, -, -, -, hitf, hpool, hmeth, hfields, hty, hres, -⟩ := Lambda.isMade_spec hmade
  cases hk0.symm.trans hd'
  rw [hnm, hfile] at hcf
  cases hcf
  have hok0 : ok.instanceTypes = #[] := Array.eq_empty_of_size_eq_zero (hO object ok hobj hok)
  rw [hO object ok hobj hok, hlay0] at hlay
  cases hlay
  obtain ⟨b, hb, hsame⟩ := hmeth 1 fwd (hsec methods hms)
  simp only [Lambda.sameMethod, Bool.and_eq_true, decide_eq_true_eq] at hsame
  obtain ⟨⟨hnn, -, hsig, hfl⟩, hcode⟩ := hsame
  simp only [Prod.mk.injEq] at hfl0
  cases hfc0 : fwd.code with
  | none => rw [hfc0] at hcode0; cases hcode0
  | some x0 =>
    cases hbc : b.code with
    | none => simp [hfc0, hbc] at hcode
    | some y0 =>
      simp only [hfc0, hbc, Bool.and_eq_true, decide_eq_true_eq] at hcode
      simp only [hfc0, Option.map_some, Option.some.injEq, Prod.mk.injEq] at hcode0
      refine ⟨m, k0, i0, p0, k, tk, file, b, y0, toy, target, cf0, ⟨hn, hk0, hfind, hcf0, hshape⟩, ⟨hk, by rw [hrec.1, hnm], hfileK, hpool.2.1, by rw [hty.1, hok0, hty0]; simp, hrec.2.1⟩, ⟨by simp [Vm.method?, hk, hb], hbc, ?_, by rw [← hcode.1.1.1.1.2.1]; exact hcode0.2, ?_, by rw [← hfl]; exact hfl0.1, by rw [← hsig]; exact hfl0.2⟩,
        ⟨ht, htk, hitf, hg, ⟨k, hk, hres iT _ (Lambda.resolvedOf_method eM.1 eM.2.1 ht htk eM.2.2 hg)⟩, ⟨k, hk, hres cT _ (Lambda.resolvedOf_class eC.1 eC.2.2 eC.2.1 ht)⟩⟩, fun j hj => ?_⟩
      · rw [← hcode.1.1.1.1.2.2]
        exact ByteArray.ext hcode0.1
      · simp [Method.locks, Method.isSynchronized, ← hfl, hfl0.1, hasFlag, Acc.synchronized]
      · obtain ⟨nt, nm, ds, e1, e2, e3, e4⟩ := eF j hj
        obtain ⟨g0, hg0, hp0⟩ := Option.map_eq_some_iff.mp e4
        simp only [Prod.mk.injEq] at hp0
        exact ⟨g0, ⟨k, j, k, hk, hres _ _ (Lambda.resolvedOf_field e1 e2 e3), hk, hfields j _ hg0⟩, hp0.1, hp0.2⟩
end ZLAM
