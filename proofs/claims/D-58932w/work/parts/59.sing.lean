/-! ROWS at one ghost heap -/
section ZSING
variable {C : ZC} {cc : ByteArray} {own : String} {nL : Nat} {ret : Option FieldType} {d mc ms : Nat} {post : Option Value → GH → Prop} {px : String → GH → Prop} {k n : Nat} {L : List (Option Value)} {pc pc' : Nat} {st : List Value} {h1 : GH}
abbrev zAt (h1 : GH) : GH → Prop := fun x => x = h1
/-- the answer laid on the stack -/
def zst : Option Value → List Value → List Value
  | none, st => st
  | some v, st => v :: st
theorem zst_eq (v : Option Value) (st : List Value) : v.toList ++ st = zst v st := by cases v <;> rfl
theorem z_get1 (X : zX C cc own nL ret d mc ms post) {ref Cn : String} {T : u_T} {N ci idx kf a : Nat} {fs : List Value} {v : Value} (hin : ∀ w ∈ u_ws Cn T N, w ∈ lw_all) (hc : zCl[ci]? = some (Cn, T, N)) (hkf : kf < N) (hq : Cond.fieldLink own idx ref (T kf).2.1 (T kf).2.2.1 ∈ lw_all) (hs : ref = (T kf).1 ∨ Cond.sameField ref (T kf).1 (T kf).2.1 (T kf).2.2.1 ∈ lw_all)
    (hh : h1 a = some (zO ci fs)) (hv : fs[kf]? = some v) (hd : decode cc pc = .ok (.getfield idx, 3)) (hn : pc + 3 = pc') (kk : ZP C nL (zAt h1) k n L pc' (v :: st)) : ZP C nL (zAt h1) k n L pc (vR a :: st) :=
  z_get X hin hc hkf hq hs (fun _ e => by rw [e]; exact hh) hv hd hn kk
theorem z_put1 (X : zX C cc own nL ret d mc ms post) {ref Cn : String} {T : u_T} {N ci idx kf a : Nat} {fs : List Value} {v : Value} (hin : ∀ w ∈ u_ws Cn T N, w ∈ lw_all) (ty : Nat → FieldType) (hty : ∀ j, j < N → parseFieldDescriptor (T j).2.2.1 = some (ty j)) (hnm : ∀ x, x < N → ∀ y, y < N → x ≠ y → (T x).2.1 ≠ (T y).2.1)
    (hc : zCl[ci]? = some (Cn, T, N)) (hkf : kf < N) (hq : Cond.fieldLink own idx ref (T kf).2.1 (T kf).2.2.1 ∈ lw_all) (hs : ref = (T kf).1 ∨ Cond.sameField ref (T kf).1 (T kf).2.1 (T kf).2.2.1 ∈ lw_all) (hfin : (T kf).2.2.2 = false) (hnar : narrow (ty kf) v = v) (hfit : fits (ty kf) v = true) (hl : kf < fs.length)
    (hh : h1 a = some (zO ci fs)) (hd : decode cc pc = .ok (.putfield idx, 3)) (hn : pc + 3 = pc') (kk : ∀ h2, h2 = hset h1 a (zO ci (fs.set kf v)) → ZP C nL (zAt h2) k n L pc' st) : ZP C nL (zAt h1) k n L pc (v :: vR a :: st) :=
  z_put X hin ty hty hnm hc hkf hq hs hfin hnar hfit hl (fun _ e => by rw [e]; exact hh) (fun _ e => by rw [e]) hd hn (kk _ rfl)
theorem z_putF1 (X : zX C cc own nL ret d mc ms post) (hname : C.2.2.2.2.2.2.2.2.1.name = "<init>") {ref Cn : String} {T : u_T} {N ci idx kf a : Nat} {fs : List Value} {v : Value} (hin : ∀ w ∈ u_ws Cn T N, w ∈ lw_all) (ty : Nat → FieldType) (hty : ∀ j, j < N → parseFieldDescriptor (T j).2.2.1 = some (ty j)) (hnm : ∀ x, x < N → ∀ y, y < N → x ≠ y → (T x).2.1 ≠ (T y).2.1)
    (hc : zCl[ci]? = some (Cn, T, N)) (hkf : kf < N) (hq : Cond.fieldLink own idx ref (T kf).2.1 (T kf).2.2.1 ∈ lw_all) (hs : ref = (T kf).1 ∨ Cond.sameField ref (T kf).1 (T kf).2.1 (T kf).2.2.1 ∈ lw_all) (hfin : (T kf).2.2.2 = true) (hdecl : (T kf).1 = own) (hnar : narrow (ty kf) v = v) (hfit : fits (ty kf) v = true) (hl : kf < fs.length)
    (hh : h1 a = some (zO ci fs)) (hd : decode cc pc = .ok (.putfield idx, 3)) (hn : pc + 3 = pc') (kk : ∀ h2, h2 = hset h1 a (zO ci (fs.set kf v)) → ZP C nL (zAt h2) k n L pc' st) : ZP C nL (zAt h1) k n L pc (v :: vR a :: st) :=
  z_putF X hname hin ty hty hnm hc hkf hq hs hfin hdecl hnar hfit hl (fun _ e => by rw [e]; exact hh) (fun _ e => by rw [e]) hd hn (kk _ rfl)
theorem ZP.hnew {q : Nat} {e : zE} (kk : ∀ h2, h1 q = none → h2 = hset h1 q e → ZP C nL (zAt h2) k n L pc st) : ZP C nL (hnew (zAt h1) q e) k n L pc st :=
  ZP.each fun x hx => by
    obtain ⟨y, e1, e2, e3⟩ := hx
    have e1 : y = h1 := e1
    rw [e1] at e2 e3
    exact kk x e2 e3
theorem z_new1 (X : zX C cc own nL ret d mc ms post) {Cn : String} {T : u_T} {N ci idx : Nat} {fs : List Value} (hin : ∀ w ∈ u_ws Cn T N, w ∈ lw_all) (ty : Nat → FieldType) (hty : ∀ j, j < N → parseFieldDescriptor (T j).2.2.1 = some (ty j)) (hcl : Cond.classLink own idx Cn ∈ lw_all) (hinst : Cond.instantiable Cn N ∈ lw_all) (hini : Cond.initialized Cn ∈ lw_all) (hc : zCl[ci]? = some (Cn, T, N)) (hfs : ∀ j, j < N → defaultValue (ty j) = vp_V fs j)
    (hd : decode cc pc = .ok (.new idx, 3)) (hn : pc + 3 = pc') (hk : k + 1 ≤ mc) (hm : n + N ≤ ms) (kk : ∀ q h2, h1 q = none → h2 = hset h1 q (zO ci fs) → ZP C nL (zAt h2) (k + 1) (n + N) L pc' (vR q :: st)) : ZP C nL (zAt h1) k n L pc st :=
  z_new X hin ty hty hcl hinst hini hc hfs hd hn hk hm fun q => ZP.hnew fun h2 a b => kk q h2 a b
theorem z_newq1 (X : zX C cc own nL ret d mc ms post) {N t t0 idx : Nat} {Cn : String} (ht : ∀ b, (zTys b)[t0]? = some (b t, .object Cn)) (hov : Cond.arrayOver (.object Cn) ∈ lw_tbl) (hcl : Cond.classLink own idx Cn ∈ lw_all) (hN : N ≤ 100000) (hd : decode cc pc = .ok (.anewarray idx, 3)) (hn : pc + 3 = pc') (hk : k + 1 ≤ mc) (hm : n + N ≤ ms)
    (kk : ∀ q h2, h1 q = none → h2 = hset h1 q (zAq t N fun _ => none) → ZP C nL (zAt h2) (k + 1) (n + N) L pc' (vR q :: st)) : ZP C nL (zAt h1) k n L pc (vI (N : Int) :: st) :=
  z_newq X ht hov hcl hN hd hn hk hm fun q => ZP.hnew fun h2 a b => kk q h2 a b
theorem z_newi1 (X : zX C cc own nL ret d mc ms post) {N : Nat} (hN : N ≤ 100000) (hd : decode cc pc = .ok (.newarray .int, 2)) (hn : pc + 2 = pc') (hk : k + 1 ≤ mc) (hm : n + N ≤ ms)
    (kk : ∀ q h2, h1 q = none → h2 = hset h1 q (zAi 10 N fun _ => 0) → ZP C nL (zAt h2) (k + 1) (n + N) L pc' (vR q :: st)) : ZP C nL (zAt h1) k n L pc (vI (N : Int) :: st) :=
  z_newi X hN hd hn hk hm fun q => ZP.hnew fun h2 a b => kk q h2 a b
theorem z_aald1 (X : zX C cc own nL ret d mc ms post) {a N t t0 : Nat} {Cn : String} {f : Nat → Option Nat} {i : Int} (ht : ∀ b, (zTys b)[t0]? = some (b t, .object Cn)) (hh : h1 a = some (zAq t N f)) (hi : 0 ≤ i ∧ i < N) (hN : N ≤ 2147483647) (hd : decode cc pc = .ok (.aaload, 1)) (hn : pc + 1 = pc')
    (kk : ZP C nL (zAt h1) k n L pc' (va_rf (f i.toNat) :: st)) : ZP C nL (zAt h1) k n L pc (vI i :: vR a :: st) := z_aald X ht (fun _ e => by rw [e]; exact hh) hi hN hd hn kk
theorem z_alen1 (X : zX C cc own nL ret d mc ms post) {a N t t0 : Nat} {x : (Nat → Int32) ⊕ (Nat → Int64) ⊕ (Nat → UInt32) ⊕ (Nat → UInt64) ⊕ (Nat → Option Nat)} {ty : FieldType} (ht : ∀ b, (zTys b)[t0]? = some (b t, ty)) (hh : h1 a = some (.inl (t, N, x))) (hd : decode cc pc = .ok (.arraylength, 1)) (hn : pc + 1 = pc')
    (kk : ZP C nL (zAt h1) k n L pc' (vI (N : Int) :: st)) : ZP C nL (zAt h1) k n L pc (vR a :: st) := z_alen X ht (fun _ e => by rw [e]; exact hh) hd hn kk
theorem z_aastN1 (X : zX C cc own nL ret d mc ms post) {a N t t0 : Nat} {Cn : String} {f : Nat → Option Nat} {i : Int} (ht : ∀ b, (zTys b)[t0]? = some (b t, .object Cn)) (hh : h1 a = some (zAq t N f)) (hi : 0 ≤ i ∧ i < N) (hN : N ≤ 2147483647) (hd : decode cc pc = .ok (.aastore, 1)) (hn : pc + 1 = pc')
    (kk : ∀ h2, h2 = hset h1 a (zAq t N (fup f i.toNat none)) → ZP C nL (zAt h2) k n L pc' st) : ZP C nL (zAt h1) k n L pc (.null :: vI i :: vR a :: st) :=
  z_aastN X ht (fun _ e => by rw [e]; exact hh) hi hN (fun _ e => by rw [e]) hd hn (kk _ rfl)
theorem z_aastO1 (X : zX C cc own nL ret d mc ms post) {a N t t0 ci v : Nat} {Cn : String} {r : vw_C} {f : Nat → Option Nat} {i : Int} (ht : ∀ b, (zTys b)[t0]? = some (b t, .object Cn)) (hc : zCl[ci]? = some r) (hca : Cond.castable r.1 Cn ∈ lw_tbl) (hh : h1 a = some (zAq t N f)) (hv : ∃ fs, h1 v = some (zO ci fs)) (hi : 0 ≤ i ∧ i < N) (hN : N ≤ 2147483647)
    (hd : decode cc pc = .ok (.aastore, 1)) (hn : pc + 1 = pc') (kk : ∀ h2, h2 = hset h1 a (zAq t N (fup f i.toNat (some v))) → ZP C nL (zAt h2) k n L pc' st) : ZP C nL (zAt h1) k n L pc (vR v :: vI i :: vR a :: st) :=
  z_aastO X ht hc hca (fun _ e => by rw [e]; exact hh) (fun _ e => by rw [e]; exact hv) hi hN (fun _ e => by rw [e]) hd hn (kk _ rfl)
theorem z_iald1 (X : zX C cc own nL ret d mc ms post) {a N : Nat} {f : Int → Int} {i : Int} (hh : h1 a = some (zAi 10 N f)) (hi : 0 ≤ i ∧ i < N) (hN : N ≤ 2147483647) (hd : decode cc pc = .ok (.iaload, 1)) (hn : pc + 1 = pc') (kk : ZP C nL (zAt h1) k n L pc' (vI (f i) :: st)) : ZP C nL (zAt h1) k n L pc (vI i :: vR a :: st) :=
  z_iald X (fun _ e => by rw [e]; exact hh) hi hN hd hn kk
theorem z_iast1 (X : zX C cc own nL ret d mc ms post) {a N : Nat} {f : Int → Int} {i z : Int} (hh : h1 a = some (zAi 10 N f)) (hi : 0 ≤ i ∧ i < N) (hN : N ≤ 2147483647) (hd : decode cc pc = .ok (.iastore, 1)) (hn : pc + 1 = pc') (kk : ∀ h2, h2 = hset h1 a (zAi 10 N (iup f i z)) → ZP C nL (zAt h2) k n L pc' st) : ZP C nL (zAt h1) k n L pc (vI z :: vI i :: vR a :: st) :=
  z_iast X (fun _ e => by rw [e]; exact hh) hi hN (fun _ e => by rw [e]) hd hn (kk _ rfl)
theorem z_cast1 (X : zX C cc own nL ret d mc ms post) {a ci idx : Nat} {r : vw_C} {nm : String} (hcl : Cond.classLink own idx nm ∈ lw_all) (hc : zCl[ci]? = some r) (hca : Cond.castable r.1 nm ∈ lw_tbl) (hv : ∃ fs, h1 a = some (zO ci fs)) (hd : decode cc pc = .ok (.checkcast idx, 3)) (hn : pc + 3 = pc')
    (kk : ZP C nL (zAt h1) k n L pc' (vR a :: st)) : ZP C nL (zAt h1) k n L pc (vR a :: st) := z_castY X hcl hc hca (fun _ e => by rw [e]; exact hv) hd hn kk
theorem z_iret1 (X : zX C cc own nL (some .int) d mc ms post) {a : Int} (hd : decode cc pc = .ok (.ireturn, 1)) (hk : k ≤ mc) (hn : n ≤ ms) (hp : post (some (vI a)) h1) : ZP C nL (zAt h1) k n L pc [vI a] := z_ireturn X hd hk hn fun _ e => by rw [e]; exact hp
theorem z_zret1 {ty : FieldType} (X : zX C cc own nL (some ty) d mc ms post) {a : Int} (hd : decode cc pc = .ok (.ireturn, 1)) (ha : narrow ty (vI a) = vI a) (hk : k ≤ mc) (hn : n ≤ ms) (hp : post (some (vI a)) h1) : ZP C nL (zAt h1) k n L pc [vI a] := z_zreturn X hd ha hk hn fun _ e => by rw [e]; exact hp
theorem z_ret1 (X : zX C cc own nL none d mc ms post) (hd : decode cc pc = .ok (.return_, 1)) (hk : k ≤ mc) (hn : n ≤ ms) (hp : post none h1) : ZP C nL (zAt h1) k n L pc [] := z_return X hd hk hn fun _ e => by rw [e]; exact hp
theorem z_aret1 {rt : FieldType} (X : zX C cc own nL (some rt) d mc ms post) (hrt : (∃ n, rt = .object n) ∨ ∃ t, rt = .array t) {a : Nat} (hd : decode cc pc = .ok (.areturn, 1)) (hk : k ≤ mc) (hn : n ≤ ms) (hp : post (some (vR a)) h1) : ZP C nL (zAt h1) k n L pc [vR a] := z_areturn X hrt (Or.inr ⟨a, rfl⟩) hd hk hn fun _ e => by rw [e]; exact hp
theorem z_aretN1 {rt : FieldType} (X : zX C cc own nL (some rt) d mc ms post) (hrt : (∃ n, rt = .object n) ∨ ∃ t, rt = .array t) (hd : decode cc pc = .ok (.areturn, 1)) (hk : k ≤ mc) (hn : n ≤ ms) (hp : post (some .null) h1) : ZP C nL (zAt h1) k n L pc [.null] := z_areturn X hrt (Or.inl rfl) hd hk hn fun _ e => by rw [e]; exact hp
/-- a method that tells v and makes nothing -/
def zPur (l : Launch) (y : MethodName) (cc : ByteArray) (mL : Nat) (ret : Option FieldType) (d : Nat) (vs : List Value) (g : zG) (h : GH) (v : Option Value) : Prop := zMet l y cc mL ret d 0 0 vs g h fun v' h' => v' = v ∧ h' = h
/-- one that does what P says -/
theorem z_callS1 (X : zX C cc own nL ret d mc ms post) {y : MethodName} {cy : ByteArray} {mL N idx dy mcy msy : Nat} {rt : Option FieldType} {vs st0 : List Value} {P : Option Value → GH → Prop} (Y : zYS y cy mL rt N) (hq : Cond.methodLink own idx y ∈ lw_all) (hd : decode cc pc = .ok (.invokestatic idx, 3)) (hn : pc + 3 = pc') (hdd : dy + 1 ≤ d) (hk : k + mcy ≤ mc) (hm : n + msy ≤ ms) (hst : st0 = vs.reverse ++ st) (hlen : vs.length = N) (hcat : (st.map fun v => v.category).sum ≤ 8)
    (hM : zMet C.2.1 y cy mL rt dy mcy msy vs (zg C) h1 P) (kk : ∀ v h2, P v h2 → ZP C nL (zAt h2) (k + mcy) (n + msy) L pc' (zst v st)) : ZP C nL (zAt h1) k n L pc st0 :=
  z_callS X Y hq hd hn hdd hk hm hst hlen hcat fun x e => by rw [show x = h1 from e]; exact hM.imp fun v h2 hp => by rw [zst_eq]; exact kk v h2 hp
theorem z_callV1 (X : zX C cc own nL ret d mc ms post) {y : MethodName} {cy : ByteArray} {mL N idx dy mcy msy b ci : Nat} {rt : Option FieldType} {vs st0 : List Value} {T : u_T} {Nf : Nat} {P : Option Value → GH → Prop} (Y : zYV y cy mL rt N) (hq : Cond.methodLink own idx y ∈ lw_all) (hd : decode cc pc = .ok (.invokevirtual idx, 3)) (hn : pc + 3 = pc') (hdd : dy + 1 ≤ d) (hk : k + mcy ≤ mc) (hm : n + msy ≤ ms) (hst : st0 = vs.reverse ++ vR b :: st) (hlen : vs.length = N) (hcat : (st.map fun v => v.category).sum ≤ 8)
    (hc : zCl[ci]? = some (y.cls, T, Nf)) (hh : ∃ fs, h1 b = some (zO ci fs)) (hM : zMet C.2.1 y cy mL rt dy mcy msy (vR b :: vs) (zg C) h1 P) (kk : ∀ v h2, P v h2 → ZP C nL (zAt h2) (k + mcy) (n + msy) L pc' (zst v st)) : ZP C nL (zAt h1) k n L pc st0 :=
  z_callV X Y hq hd hn hdd hk hm hst hlen hcat hc (fun _ e => by rw [e]; exact hh) fun x e => by rw [show x = h1 from e]; exact hM.imp fun v h2 hp => by rw [zst_eq]; exact kk v h2 hp
theorem z_callI1 (X : zX C cc own nL ret d mc ms post) {y : MethodName} {cy : ByteArray} {mL N idx dy mcy msy b : Nat} {vs st0 : List Value} {P : Option Value → GH → Prop} (Y : zYI y cy mL N) (hq : Cond.methodLink own idx y ∈ lw_all) (hd : decode cc pc = .ok (.invokespecial idx, 3)) (hn : pc + 3 = pc') (hdd : dy + 1 ≤ d) (hk : k + mcy ≤ mc) (hm : n + msy ≤ ms) (hst : st0 = vs.reverse ++ vR b :: st) (hlen : vs.length = N) (hcat : (st.map fun v => v.category).sum ≤ 8)
    (hM : zMet C.2.1 y cy mL none dy mcy msy (vR b :: vs) (zg C) h1 P) (kk : ∀ v h2, P v h2 → ZP C nL (zAt h2) (k + mcy) (n + msy) L pc' (zst v st)) : ZP C nL (zAt h1) k n L pc st0 :=
  z_callI X Y hq hd hn hdd hk hm hst hlen hcat fun x e => by rw [show x = h1 from e]; exact hM.imp fun v h2 hp => by rw [zst_eq]; exact kk v h2 hp
theorem z_callSN1 (X : zX C cc own nL ret d mc ms post) {y : MethodName} {cy : ByteArray} {mL N idx dy mcy msy : Nat} {rt : Option FieldType} {vs st0 : List Value} {host : String} {P : Option Value → GH → Prop} (Y : zYS y cy mL rt N) (hq : Cond.methodLinkNest own idx y host ∈ lw_tbl) (hd : decode cc pc = .ok (.invokestatic idx, 3)) (hn : pc + 3 = pc') (hdd : dy + 1 ≤ d) (hk : k + mcy ≤ mc) (hm : n + msy ≤ ms) (hst : st0 = vs.reverse ++ st) (hlen : vs.length = N) (hcat : (st.map fun v => v.category).sum ≤ 8)
    (hM : zMet C.2.1 y cy mL rt dy mcy msy vs (zg C) h1 P) (kk : ∀ v h2, P v h2 → ZP C nL (zAt h2) (k + mcy) (n + msy) L pc' (zst v st)) : ZP C nL (zAt h1) k n L pc st0 :=
  z_callSN X Y hq hd hn hdd hk hm hst hlen hcat fun x e => by rw [show x = h1 from e]; exact hM.imp fun v h2 hp => by rw [zst_eq]; exact kk v h2 hp
theorem z_callIN1 (X : zX C cc own nL ret d mc ms post) {y : MethodName} {cy : ByteArray} {mL N idx dy mcy msy b : Nat} {vs st0 : List Value} {host : String} {P : Option Value → GH → Prop} (Y : zYI y cy mL N) (hq : Cond.methodLinkNest own idx y host ∈ lw_tbl) (hd : decode cc pc = .ok (.invokespecial idx, 3)) (hn : pc + 3 = pc') (hdd : dy + 1 ≤ d) (hk : k + mcy ≤ mc) (hm : n + msy ≤ ms) (hst : st0 = vs.reverse ++ vR b :: st) (hlen : vs.length = N) (hcat : (st.map fun v => v.category).sum ≤ 8)
    (hM : zMet C.2.1 y cy mL none dy mcy msy (vR b :: vs) (zg C) h1 P) (kk : ∀ v h2, P v h2 → ZP C nL (zAt h2) (k + mcy) (n + msy) L pc' (zst v st)) : ZP C nL (zAt h1) k n L pc st0 :=
  z_callIN X Y hq hd hn hdd hk hm hst hlen hcat fun x e => by rw [show x = h1 from e]; exact hM.imp fun v h2 hp => by rw [zst_eq]; exact kk v h2 hp
theorem z_callSX1 (X : zX C cc own nL ret d mc ms post) (Xt : zXt C mc ms post px) {y : MethodName} {cy : ByteArray} {mL N idx dy mcy msy : Nat} {rt : Option FieldType} {vs st0 : List Value} {P : Option Value → GH → Prop} {qx : String → GH → Prop} (Y : zYS y cy mL rt N) (hq : Cond.methodLink own idx y ∈ lw_all) (hd : decode cc pc = .ok (.invokestatic idx, 3)) (hn : pc + 3 = pc') (hdd : dy + 1 ≤ d) (hk : k + mcy ≤ mc) (hm : n + msy ≤ ms) (hst : st0 = vs.reverse ++ st) (hlen : vs.length = N) (hcat : (st.map fun v => v.category).sum ≤ 8)
    (hM : zMex C.2.1 y cy mL rt dy mcy msy vs (zg C) h1 P qx) (hqx : ∀ E h, qx E h → px E h) (kk : ∀ v h2, P v h2 → ZP C nL (zAt h2) (k + mcy) (n + msy) L pc' (zst v st)) : ZP C nL (zAt h1) k n L pc st0 :=
  z_callSX X Xt Y hq hd hn hdd hk hm hst hlen hcat hqx fun x e => by rw [show x = h1 from e]; exact hM.imp (fun v h2 hp => by rw [zst_eq]; exact kk v h2 hp) (fun _ _ h => h)
theorem z_callVX1 (X : zX C cc own nL ret d mc ms post) (Xt : zXt C mc ms post px) {y : MethodName} {cy : ByteArray} {mL N idx dy mcy msy b ci : Nat} {rt : Option FieldType} {vs st0 : List Value} {T : u_T} {Nf : Nat} {P : Option Value → GH → Prop} {qx : String → GH → Prop} (Y : zYV y cy mL rt N) (hq : Cond.methodLink own idx y ∈ lw_all) (hd : decode cc pc = .ok (.invokevirtual idx, 3)) (hn : pc + 3 = pc') (hdd : dy + 1 ≤ d) (hk : k + mcy ≤ mc) (hm : n + msy ≤ ms) (hst : st0 = vs.reverse ++ vR b :: st) (hlen : vs.length = N) (hcat : (st.map fun v => v.category).sum ≤ 8)
    (hc : zCl[ci]? = some (y.cls, T, Nf)) (hh : ∃ fs, h1 b = some (zO ci fs)) (hM : zMex C.2.1 y cy mL rt dy mcy msy (vR b :: vs) (zg C) h1 P qx) (hqx : ∀ E h, qx E h → px E h) (kk : ∀ v h2, P v h2 → ZP C nL (zAt h2) (k + mcy) (n + msy) L pc' (zst v st)) : ZP C nL (zAt h1) k n L pc st0 :=
  z_callVX X Xt Y hq hd hn hdd hk hm hst hlen hcat hc (fun _ e => by rw [e]; exact hh) hqx fun x e => by rw [show x = h1 from e]; exact hM.imp (fun v h2 hp => by rw [zst_eq]; exact kk v h2 hp) (fun _ _ h => h)
theorem z_callS0 (X : zX C cc own nL ret d mc ms post) {y : MethodName} {cy : ByteArray} {mL N idx dy : Nat} {rt : Option FieldType} {vs st0 : List Value} {v : Option Value} (Y : zYS y cy mL rt N) (hq : Cond.methodLink own idx y ∈ lw_all) (hd : decode cc pc = .ok (.invokestatic idx, 3)) (hn : pc + 3 = pc') (hdd : dy + 1 ≤ d) (hk : k ≤ mc) (hm : n ≤ ms) (hst : st0 = vs.reverse ++ st) (hlen : vs.length = N) (hcat : (st.map fun v => v.category).sum ≤ 8)
    (hM : zPur C.2.1 y cy mL rt dy vs (zg C) h1 v) (kk : ZP C nL (zAt h1) k n L pc' (zst v st)) : ZP C nL (zAt h1) k n L pc st0 :=
  z_callS1 (mcy := 0) (msy := 0) X Y hq hd hn hdd hk hm hst hlen hcat hM fun v' h2 hp => by rw [hp.1, hp.2]; exact kk
theorem z_callV0 (X : zX C cc own nL ret d mc ms post) {y : MethodName} {cy : ByteArray} {mL N idx dy b ci : Nat} {rt : Option FieldType} {vs st0 : List Value} {T : u_T} {Nf : Nat} {v : Option Value} (Y : zYV y cy mL rt N) (hq : Cond.methodLink own idx y ∈ lw_all) (hd : decode cc pc = .ok (.invokevirtual idx, 3)) (hn : pc + 3 = pc') (hdd : dy + 1 ≤ d) (hk : k ≤ mc) (hm : n ≤ ms) (hst : st0 = vs.reverse ++ vR b :: st) (hlen : vs.length = N) (hcat : (st.map fun v => v.category).sum ≤ 8)
    (hc : zCl[ci]? = some (y.cls, T, Nf)) (hh : ∃ fs, h1 b = some (zO ci fs)) (hM : zPur C.2.1 y cy mL rt dy (vR b :: vs) (zg C) h1 v) (kk : ZP C nL (zAt h1) k n L pc' (zst v st)) : ZP C nL (zAt h1) k n L pc st0 :=
  z_callV1 (mcy := 0) (msy := 0) X Y hq hd hn hdd hk hm hst hlen hcat hc hh hM fun v' h2 hp => by rw [hp.1, hp.2]; exact kk
theorem z_callSN0 (X : zX C cc own nL ret d mc ms post) {y : MethodName} {cy : ByteArray} {mL N idx dy : Nat} {rt : Option FieldType} {vs st0 : List Value} {host : String} {v : Option Value} (Y : zYS y cy mL rt N) (hq : Cond.methodLinkNest own idx y host ∈ lw_tbl) (hd : decode cc pc = .ok (.invokestatic idx, 3)) (hn : pc + 3 = pc') (hdd : dy + 1 ≤ d) (hk : k ≤ mc) (hm : n ≤ ms) (hst : st0 = vs.reverse ++ st) (hlen : vs.length = N) (hcat : (st.map fun v => v.category).sum ≤ 8)
    (hM : zPur C.2.1 y cy mL rt dy vs (zg C) h1 v) (kk : ZP C nL (zAt h1) k n L pc' (zst v st)) : ZP C nL (zAt h1) k n L pc st0 :=
  z_callSN1 (mcy := 0) (msy := 0) X Y hq hd hn hdd hk hm hst hlen hcat hM fun v' h2 hp => by rw [hp.1, hp.2]; exact kk
theorem z_callI0 (X : zX C cc own nL ret d mc ms post) {y : MethodName} {cy : ByteArray} {mL N idx dy b : Nat} {vs st0 : List Value} {v : Option Value} (Y : zYI y cy mL N) (hq : Cond.methodLink own idx y ∈ lw_all) (hd : decode cc pc = .ok (.invokespecial idx, 3)) (hn : pc + 3 = pc') (hdd : dy + 1 ≤ d) (hk : k ≤ mc) (hm : n ≤ ms) (hst : st0 = vs.reverse ++ vR b :: st) (hlen : vs.length = N) (hcat : (st.map fun v => v.category).sum ≤ 8)
    (hM : zPur C.2.1 y cy mL none dy (vR b :: vs) (zg C) h1 v) (kk : ZP C nL (zAt h1) k n L pc' (zst v st)) : ZP C nL (zAt h1) k n L pc st0 :=
  z_callI1 (mcy := 0) (msy := 0) X Y hq hd hn hdd hk hm hst hlen hcat hM fun v' h2 hp => by rw [hp.1, hp.2]; exact kk
/-- a call by an interface -/
theorem z_callF1 (X : zX C cc own nL ret d mc ms post) {x y : MethodName} {cy : ByteArray} {mL N idx cnt dy mcy msy b ci : Nat} {rt : Option FieldType} {vs st0 : List Value} {r : vw_C} {P : Option Value → GH → Prop}
    (hq : Cond.methodLink own idx x ∈ lw_all) (hsel : Cond.selects r.1 x y ∈ lw_all) (hins : Cond.instanceMethod y ∈ lw_all) (hini : Cond.initialized y.cls ∈ lw_all) (hcode : Cond.code y cy mL rt ∈ lw_all)
    (hdec : Cond.declares x ∈ lw_tbl) (hif : Cond.interfaceMethod x.cls x.cls x.name x.desc ∈ lw_tbl) (hpub : Cond.publicMethod y ∈ lw_tbl) (hunh : Cond.unhidden r.1 x.name x.desc ∈ lw_tbl) (hcas : Cond.castable r.1 x.cls ∈ lw_tbl)
    (hdx : x.cls ≠ "java/lang/invoke/MethodHandle" ∧ x.cls ≠ "java/lang/invoke/VarHandle" ∧ (parseMethodDescriptor x.desc).map (fun d => d.parameters.length) = some N) (hmL : mL ≤ 21)
    (hd : decode cc pc = .ok (.invokeinterface idx cnt, 5)) (hn : pc + 5 = pc') (hdd : dy + 1 ≤ d) (hk : k + mcy ≤ mc) (hm : n + msy ≤ ms) (hst : st0 = vs.reverse ++ vR b :: st) (hlen : vs.length = N) (hcat : (st.map fun v => v.category).sum ≤ 8)
    (hc : zCl[ci]? = some r) (hh : ∃ fs, h1 b = some (zO ci fs)) (hM : zMet C.2.1 y cy mL rt dy mcy msy (vR b :: vs) (zg C) h1 P) (kk : ∀ v h2, P v h2 → ZP C nL (zAt h2) (k + mcy) (n + msy) L pc' (zst v st)) : ZP C nL (zAt h1) k n L pc st0 :=
  z_callF X hq hsel hins hini hcode hdec hif hpub hunh hcas hdx hmL hd hn hdd hk hm hst hlen hcat hc (fun _ e => by rw [e]; exact hh) fun x' e => by rw [show x' = h1 from e]; exact hM.imp fun v h2 hp => by rw [zst_eq]; exact kk v h2 hp
/-- an abstract method called on a constant that stands fast -/
theorem z_callE0 (X : zX C cc own nL ret d mc ms post) {x y : MethodName} {cy : ByteArray} {mL N idx dy b : Nat} {rt : Option FieldType} {vs st0 : List Value} {v : Option Value} {Cn : String} (hq : Cond.methodLink own idx x ∈ lw_all) (hsame : Cond.sameMethod x.cls x.cls x.name x.desc ∈ lw_all) (hdecl : Cond.declares ⟨x.cls, x.name, x.desc⟩ ∈ lw_tbl) (hsel : Cond.selects Cn x y ∈ lw_all) (hins : Cond.instanceMethod y ∈ lw_all) (hini : Cond.initialized y.cls ∈ lw_all) (hcode : Cond.code y cy mL rt ∈ lw_all)
    (hdx : x.cls ≠ "java/lang/invoke/MethodHandle" ∧ x.cls ≠ "java/lang/invoke/VarHandle" ∧ (parseMethodDescriptor x.desc).map (fun d => d.parameters.length) = some N) (hmL : mL ≤ 21) (hO : ∀ U, zFacts (zg C) U → va_O Cn b (zA (zg C)) U U.heap)
    (hd : decode cc pc = .ok (.invokevirtual idx, 3)) (hn : pc + 3 = pc') (hdd : dy + 1 ≤ d) (hk : k ≤ mc) (hm : n ≤ ms) (hst : st0 = vs.reverse ++ vR b :: st) (hlen : vs.length = N) (hcat : (st.map fun v => v.category).sum ≤ 8)
    (hM : zPur C.2.1 y cy mL rt dy (vR b :: vs) (zg C) h1 v) (kk : ZP C nL (zAt h1) k n L pc' (zst v st)) : ZP C nL (zAt h1) k n L pc st0 := by
  have hM' : zMet C.2.1 y cy mL rt dy 0 0 (vR b :: vs) (zg C) h1 (fun v' h' => ZP C nL (fun x => x = h') (k + 0) (n + 0) L pc' (v'.toList ++ st)) := hM.imp fun v' h2 hp => by rw [hp.1, hp.2, zst_eq]; exact kk
  obtain ⟨p, l, e, R, s, m, args, below, meth, c, g, Q⟩ := C
  obtain ⟨hx, hb, hml, hown, hts, hret, hlk, hK, hR, hQ⟩ := X
  subst hn
  intro h H locs cells slots ls g1 h2 h3 h4 h5 h6
  have g1 : h = h1 := g1
  subst g1
  have hRR : R = zrm d mc ms := hR
  obtain ⟨cell, o1, o2, o3, -⟩ := (hO s hK.facts).kept h3.2.1
  have hG : GoodIn lw_all (va_wsU own idx Cn x.cls x y (ws_ y cy mL rt)) := by
    refine lw_app ?_ (lw_meth hcode)
    intro w hw
    simp only [List.mem_cons, List.not_mem_nil, or_false] at hw
    rcases hw with e | e | e | e | e
    · rw [e]; exact hq
    · rw [e]; exact hsame
    · rw [e]; exact hsel
    · rw [e]; exact hins
    · rw [e]; exact hini
  exact z_run (mcy := 0) (msy := 0) h3 (by omega) (by omega) h6 (va_runU (As := vs) (rest := st) (owner := x.cls) ⟨hx, hb, hml, hown, hts⟩ hM' (va_cwA N hts hG rfl rfl rfl (hK.facts.2.2.2.2.2.2.1 _ hdecl rfl) hdx ⟨by rw [hRR]; exact hdd, by rw [hRR]; show 8 + (mL + 11) + 40 * dy ≤ 40 * d; omega⟩) ⟨zblind _ _ _, ⟨cell, o1, o2, o3⟩, fun U hU hW => ⟨rfl, hK.S hW (by rw [hU]; exact h3), by rw [hU]; exact h2⟩⟩ rfl hlen h6.1 hst (lv_room hcat) hd ⟨by rw [hRR]; show cells + 0 ≤ mc; omega, by rw [hRR]; show slots + 0 ≤ ms; omega⟩)
/-- a cell beside the one written -/
theorem hset_oo {h : GH} {q x ci cj : Nat} {fs gs : List Value} {e : zE} (hx : h x = some (zO ci fs)) (hq : h q = some (zO cj gs)) (hn : ci ≠ cj) : hset h q e x = some (zO ci fs) := by
  refine (hset_n fun hh => ?_).trans hx
  subst hh
  rw [hx] at hq
  cases hq
  exact hn rfl
theorem hset_oa {h : GH} {q x ci : Nat} {fs : List Value} {a : Nat × vp_A} {e : zE} (hx : h x = some (zO ci fs)) (hq : h q = some (.inl a)) : hset h q e x = some (zO ci fs) := by
  refine (hset_n fun hh => ?_).trans hx
  subst hh
  rw [hx] at hq
  cases hq
theorem hset_ao {h : GH} {q x ci : Nat} {fs : List Value} {a : Nat × vp_A} {e : zE} (hx : h x = some (.inl a)) (hq : h q = some (zO ci fs)) : hset h q e x = some (.inl a) := by
  refine (hset_n fun hh => ?_).trans hx
  subst hh
  rw [hx] at hq
  cases hq
/-- a cell beside a new one -/
theorem hset_f {h : GH} {q x : Nat} {e e' : zE} (hx : h x = some e) (hq : h q = none) : hset h q e' x = some e := by
  refine (hset_n fun hh => ?_).trans hx
  subst hh
  rw [hx] at hq
  cases hq
end ZSING
