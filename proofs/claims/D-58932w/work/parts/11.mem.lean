/-! MEMORY, CALLS, CONTRACTS over ghost heaps; the model's memory as one function -/
section ZMEM
variable {C : ZC} {cc : ByteArray} {own : String} {nL : Nat} {ret : Option FieldType} {d mc ms : Nat} {post : Option Value → GH → Prop} {Φ Φ' : GH → Prop} {k n : Nat} {L : List (Option Value)} {pc pc' : Nat} {st : List Value}
theorem zP1 {D : va_G} {cl : List vw_C} {q : Nat × va_E} {H : Heap} (h : va_at D cl q H) : va_P D cl [q] H := by
  intro k x hk
  match k, hk with
  | 0, hk => cases hk; exact h
  | k + 1, hk => simp at hk
theorem zS.put {A : Nat → Prop} {H0 H H1 : Heap} {locs : List Loc} {a k : Nat} (h : va_S A H0 H locs) (z : H1.size = H.size) (oq : ∀ q : Nat, q ≠ a → H1[q]? = H[q]?) (ha : A a) : va_S A H0 H1 (locs ++ [⟨a, k⟩]) := va_S.put h z oq ha
theorem zsame {args : Array Value} {s : State} {ref : String} {x : String × String × String × Bool} (hts : ∀ w ∈ lw_all, w.before args s = true) (h : ref = x.1 ∨ Cond.sameField ref x.1 x.2.1 x.2.2.1 ∈ lw_all) : ∀ y, s.fieldFound? x.1 x.2.1 x.2.2.1 = some y → s.fieldFound? ref x.2.1 x.2.2.1 = some y := by
  rcases h with h | h
  · subst h
    exact fun _ h9 => h9
  · exact u_same (hts _ h)
/-- getfield -/
theorem z_get (X : zX C cc own nL ret d mc ms post) {ref Cn : String} {T : u_T} {N ci idx kf a : Nat} {fs : List Value} {v : Value} (hin : ∀ w ∈ u_ws Cn T N, w ∈ lw_all) (hc : zCl[ci]? = some (Cn, T, N)) (hkf : kf < N) (hq : Cond.fieldLink own idx ref (T kf).2.1 (T kf).2.2.1 ∈ lw_all) (hs : ref = (T kf).1 ∨ Cond.sameField ref (T kf).1 (T kf).2.1 (T kf).2.2.1 ∈ lw_all)
    (hh : ∀ h, Φ h → h a = some (zO ci fs)) (hv : fs[kf]? = some v) (hd : decode cc pc = .ok (.getfield idx, 3)) (hn : pc + 3 = pc') (kk : ZP C nL Φ k n L pc' (v :: st)) : ZP C nL Φ k n L pc (vR a :: st) := by
  obtain ⟨p, l, e, R, s, m, args, below, meth, c, g, Q⟩ := C
  obtain ⟨hx, hb, hml, hown, hts, hret, hlk, hK, hR, hQ⟩ := X
  subst hn
  intro h H locs cells slots ls h1 h2 h3 h4 h5 h6
  have h7 : va_at g.1 zCl (a, .inr (ci, fs)) H := (h2 a _ (hh h h1)).2
  exact va_get (D := g.1) (ci := ci) (v := v) (C := Cn) (T := T) (N := N) hx hb hts hin hown hK.facts.1 (zP1 h7) 0 rfl hc kf hkf (hts _ hq) (zsame hts hs) hv hd (kk h H locs cells slots ls h1 h2 h3 h4 h5 h6)
/-- putfield of a field that is not final -/
theorem z_put (X : zX C cc own nL ret d mc ms post) {ref Cn : String} {T : u_T} {N ci idx kf a : Nat} {fs : List Value} {v : Value} (hin : ∀ w ∈ u_ws Cn T N, w ∈ lw_all) (ty : Nat → FieldType) (hty : ∀ j, j < N → parseFieldDescriptor (T j).2.2.1 = some (ty j)) (hnm : ∀ x, x < N → ∀ y, y < N → x ≠ y → (T x).2.1 ≠ (T y).2.1)
    (hc : zCl[ci]? = some (Cn, T, N)) (hkf : kf < N) (hq : Cond.fieldLink own idx ref (T kf).2.1 (T kf).2.2.1 ∈ lw_all) (hs : ref = (T kf).1 ∨ Cond.sameField ref (T kf).1 (T kf).2.1 (T kf).2.2.1 ∈ lw_all) (hfin : (T kf).2.2.2 = false) (hnar : narrow (ty kf) v = v) (hfit : fits (ty kf) v = true) (hl : kf < fs.length)
    (hh : ∀ h, Φ h → h a = some (zO ci fs)) (hΦ : ∀ h, Φ h → Φ' (hset h a (zO ci (fs.set kf v)))) (hd : decode cc pc = .ok (.putfield idx, 3)) (hn : pc + 3 = pc') (kk : ZP C nL Φ' k n L pc' st) : ZP C nL Φ k n L pc (v :: vR a :: st) := by
  obtain ⟨p, l, e, R, s, m, args, below, meth, c, g, Q⟩ := C
  obtain ⟨hx, hb, hml, hown, hts, hret, hlk, hK, hR, hQ⟩ := X
  subst hn
  intro h H locs cells slots ls h1 h2 h3 h4 h5 h6
  have hKf := hK.facts.1
  obtain ⟨hbase, hat⟩ := h2 a _ (hh h h1)
  have hap := va_apart (own := own) hts hin ty hty hnm hKf hc
  obtain ⟨r, hr1, cell, q1, q2, q3, q4⟩ := hat
  obtain rfl : r = (Cn, T, N) := Option.some.inj (hr1.symm.trans hc)
  obtain ⟨hS, hfc, kC, hkC, hkind⟩ := hKf.1 ci _ hc
  obtain ⟨cf, kc, fi, f, hi, hsl⟩ := hS kf hkf
  have hlay := hts _ (hin _ (u_in_lay hkf))
  unfold u_lay at hlay
  rw [if_neg (by rw [hfin]; decide)] at hlay
  have h6' := u_store hfc hkC hkind hlay hi (hty kf hkf) hnar hfit
  refine W.putK hx hb (f := f) ⟨hown, hts _ hq, ⟨_, _, _, zsame hts hs _ hi⟩, (u_facts hfc hkC (u_lays hts hin hkf) hi).1⟩ (by rw [q2]; exact h6') q1 q3 (by rw [hsl]; exact k2_hasslot (q4 kf hkf)) rfl rfl hd fun H' e1 e2 e3 => ?_
  rw [hsl] at e1 ⊢
  refine kk _ H' _ cells slots ls (hΦ h h1) (h2.set hbase ?_ e3) (h3.put e2 e3 hbase) h4 h5 h6
  exact ⟨_, hc, t_OB.to (V := updV (vp_V fs) kf v) ⟨_, e1, q2, q3, t_set q4 hap hkf v⟩ (fun j _ => vp_updV_set hl v j)⟩
/-- putfield of a final field, in its class's constructor -/
theorem z_putF (X : zX C cc own nL ret d mc ms post) (hname : C.2.2.2.2.2.2.2.2.1.name = "<init>") {ref Cn : String} {T : u_T} {N ci idx kf a : Nat} {fs : List Value} {v : Value} (hin : ∀ w ∈ u_ws Cn T N, w ∈ lw_all) (ty : Nat → FieldType) (hty : ∀ j, j < N → parseFieldDescriptor (T j).2.2.1 = some (ty j)) (hnm : ∀ x, x < N → ∀ y, y < N → x ≠ y → (T x).2.1 ≠ (T y).2.1)
    (hc : zCl[ci]? = some (Cn, T, N)) (hkf : kf < N) (hq : Cond.fieldLink own idx ref (T kf).2.1 (T kf).2.2.1 ∈ lw_all) (hs : ref = (T kf).1 ∨ Cond.sameField ref (T kf).1 (T kf).2.1 (T kf).2.2.1 ∈ lw_all) (hfin : (T kf).2.2.2 = true) (hdecl : (T kf).1 = own) (hnar : narrow (ty kf) v = v) (hfit : fits (ty kf) v = true) (hl : kf < fs.length)
    (hh : ∀ h, Φ h → h a = some (zO ci fs)) (hΦ : ∀ h, Φ h → Φ' (hset h a (zO ci (fs.set kf v)))) (hd : decode cc pc = .ok (.putfield idx, 3)) (hn : pc + 3 = pc') (kk : ZP C nL Φ' k n L pc' st) : ZP C nL Φ k n L pc (v :: vR a :: st) := by
  obtain ⟨p, l, e, R, s, m, args, below, meth, c, g, Q⟩ := C
  obtain ⟨hx, hb, hml, hown, hts, hret, hlk, hK, hR, hQ⟩ := X
  subst hn
  intro h H locs cells slots ls h1 h2 h3 h4 h5 h6
  have hKf := hK.facts.1
  obtain ⟨hbase, hat⟩ := h2 a _ (hh h h1)
  have hap := va_apart (own := own) hts hin ty hty hnm hKf hc
  obtain ⟨r, hr1, cell, q1, q2, q3, q4⟩ := hat
  obtain rfl : r = (Cn, T, N) := Option.some.inj (hr1.symm.trans hc)
  obtain ⟨hS, hfc, kC, hkC, hkind⟩ := hKf.1 ci _ hc
  obtain ⟨cf, kc, fi, f, hi, hsl⟩ := hS kf hkf
  have hlay := hts _ (hin _ (u_in_lay hkf))
  unfold u_lay at hlay
  rw [if_pos hfin] at hlay
  have hcf : m.cls = cf := by
    obtain ⟨_, _, c', _, _, _, -, -, hf', -, -, -, hown2, -⟩ := Cond.laysFinal_spec hlay
    have e1 : c' = cf := by have := hi.symm.trans hf'; simp at this; exact this.1.symm
    rw [hdecl] at hown2
    rw [← e1]; exact Option.some.inj (hown.symm.trans hown2)
  have h6' := u_fits hfc hkC hkind (Or.inr hlay) hi (hty kf hkf) hnar hfit
  refine W.putFinK hx hb hown (hts _ hq) (zsame hts hs _ hi) (u_facts hfc hkC (u_lays hts hin hkf) hi).1 hcf hname (by rw [q2]; exact h6') q1 q3 (by rw [hsl]; exact k2_hasslot (q4 kf hkf)) rfl rfl hd fun H' e1 e2 e3 => ?_
  rw [hsl] at e1 ⊢
  refine kk _ H' _ cells slots ls (hΦ h h1) (h2.set hbase ?_ e3) (h3.put e2 e3 hbase) h4 h5 h6
  exact ⟨_, hc, t_OB.to (V := updV (vp_V fs) kf v) ⟨_, e1, q2, q3, t_set q4 hap hkf v⟩ (fun j _ => vp_updV_set hl v j)⟩
theorem zTys_at (b : Nat → Nat) : (zTys b)[0]? = some (b 10, .int) ∧ (zTys b)[1]? = some (b 11, .long) ∧ (zTys b)[2]? = some (b 12, .boolean) ∧ (zTys b)[3]? = some (b 13, .byte) ∧ (zTys b)[4]? = some (b 14, .object "java/lang/Object") ∧ (zTys b)[5]? = some (b 15, .object "PaperMill$Work") ∧ (zTys b)[6]? = some (b 16, .object "PaperMill$Reason") := ⟨rfl, rfl, rfl, rfl, rfl, rfl, rfl⟩
/-- iaload -/
theorem z_iald (X : zX C cc own nL ret d mc ms post) {a N : Nat} {f : Int → Int} {i : Int} (hh : ∀ h, Φ h → h a = some (zAi 10 N f)) (hi : 0 ≤ i ∧ i < N) (hN : N ≤ 2147483647) (hd : decode cc pc = .ok (.iaload, 1)) (hn : pc + 1 = pc') (kk : ZP C nL Φ k n L pc' (vI (f i) :: st)) : ZP C nL Φ k n L pc (vI i :: vR a :: st) := by
  obtain ⟨p, l, e, R, s, m, args, below, meth, c, g, Q⟩ := C
  obtain ⟨hx, hb, hml, hown, hts, hret, hlk, hK, hR, hQ⟩ := X
  subst hn
  intro h H locs cells slots ls h1 h2 h3 h4 h5 h6
  have h7 : va_at g.1 zCl (a, .inl (g.2.2 10, N, .inl fun j => jI (f j))) H := (h2 a _ (hh h h1)).2
  refine va_iald (i := jI i) hx hb hK.facts.1 (zP1 h7) 0 0 rfl rfl (jI_in hi hN) hd ?_
  rw [jI_clamp ⟨hi.1, by omega⟩, show ((i.toNat : Nat) : Int) = i by omega]
  exact kk h H locs cells slots ls h1 h2 h3 h4 h5 h6
/-- a function at one place changed -/
def iup (f : Int → Int) (i z : Int) : Int → Int := fun j => if j = i then z else f j
theorem iup_s {f : Int → Int} {i z : Int} : iup f i z i = z := if_pos rfl
theorem iup_n {f : Int → Int} {i z j : Int} (h : j ≠ i) : iup f i z j = f j := if_neg h
/-- iastore -/
theorem z_iast (X : zX C cc own nL ret d mc ms post) {a N : Nat} {f : Int → Int} {i z : Int} (hh : ∀ h, Φ h → h a = some (zAi 10 N f)) (hi : 0 ≤ i ∧ i < N) (hN : N ≤ 2147483647) (hΦ : ∀ h, Φ h → Φ' (hset h a (zAi 10 N (iup f i z)))) (hd : decode cc pc = .ok (.iastore, 1)) (hn : pc + 1 = pc') (kk : ZP C nL Φ' k n L pc' st) : ZP C nL Φ k n L pc (vI z :: vI i :: vR a :: st) := by
  obtain ⟨p, l, e, R, s, m, args, below, meth, c, g, Q⟩ := C
  obtain ⟨hx, hb, hml, hown, hts, hret, hlk, hK, hR, hQ⟩ := X
  subst hn
  intro h H locs cells slots ls h1 h2 h3 h4 h5 h6
  obtain ⟨hbase, hat⟩ := h2 a _ (hh h h1)
  have hty := (hK.facts.1.2 0 _ rfl).1
  refine W.iast hx hb hat (hty N (fun j => .int (jI (f j)))) (fun q => by cases q) (by show ¬ (jI i < 0 ∨ (arrV _ _ _).slots.size ≤ _); rw [arrV_size]; exact jI_in hi hN) rfl rfl hd fun H1 e z2 oq => ?_
  refine kk _ H1 _ cells slots ls (hΦ h h1) (h2.set hbase ?_ oq) (h3.put z2 oq hbase) h4 h5 h6
  show H1[a]? = some (vp_cell _ _)
  rw [e, vp_cell_i, vp_cell_i, arrV_store, jI_clamp ⟨hi.1, by omega⟩]
  congr 2
  funext q
  unfold updV iup
  by_cases hq : q = i.toNat
  · rw [if_pos hq, if_pos (by omega)]
  · rw [if_neg hq, if_neg (by omega)]
theorem zblind (g : zG) (h : GH) (vs : List Value) : FrameBlind (zPc g h vs) := fun a U f mk q => ⟨q.1, q.2.1.calling f mk a, q.2.2⟩
theorem zMet.imp {l : Launch} {y : MethodName} {cy : ByteArray} {mL : Nat} {rt : Option FieldType} {dy a b : Nat} {vs : List Value} {g : zG} {h : GH} {P P' : Option Value → GH → Prop} (hi : ∀ v h', P v h' → P' v h') (hM : zMet l y cy mL rt dy a b vs g h P) : zMet l y cy mL rt dy a b vs g h P' := by
  intro p e ha hc hk s m args below hf happ hP hK
  obtain ⟨t, o, h1, h2, h3, ⟨⟨v, h', e1, e2, e3⟩, h5⟩, h6⟩ := hM p e ha hc hk s m args below hf happ hP hK
  exact ⟨t, o, h1, h2, h3, ⟨⟨v, h', e1, hi v h' e2, e3⟩, h5⟩, h6⟩
/-- what a static call asks of the tables -/
def zYS (y : MethodName) (cy : ByteArray) (mL : Nat) (rt : Option FieldType) (N : Nat) : Prop :=
  (Cond.static y ∈ lw_all ∧ Cond.initialized y.cls ∈ lw_all ∧ Cond.code y cy mL rt ∈ lw_all) ∧ (y.cls ≠ "java/lang/invoke/MethodHandle" ∧ y.cls ≠ "java/lang/invoke/VarHandle" ∧ (parseMethodDescriptor y.desc).map (fun d => d.parameters.length) = some N) ∧ mL ≤ 21
/-- what a call through an object asks -/
def zYV (y : MethodName) (cy : ByteArray) (mL : Nat) (rt : Option FieldType) (N : Nat) : Prop :=
  (Cond.instanceMethod y ∈ lw_all ∧ Cond.selects y.cls y y ∈ lw_all ∧ Cond.initialized y.cls ∈ lw_all ∧ Cond.code y cy mL rt ∈ lw_all) ∧ (y.cls ≠ "java/lang/invoke/MethodHandle" ∧ y.cls ≠ "java/lang/invoke/VarHandle" ∧ (parseMethodDescriptor y.desc).map (fun d => d.parameters.length) = some N) ∧ mL ≤ 21
/-- what a constructor's call asks -/
def zYI (y : MethodName) (cy : ByteArray) (mL : Nat) (N : Nat) : Prop :=
  (Cond.instanceMethod y ∈ lw_all ∧ Cond.initialized y.cls ∈ lw_all ∧ Cond.code y cy mL none ∈ lw_all) ∧ (y.cls ≠ "java/lang/invoke/MethodHandle" ∧ y.cls ≠ "java/lang/invoke/VarHandle" ∧ (parseMethodDescriptor y.desc).map (fun d => d.parameters.length) = some N) ∧ mL ≤ 21 ∧ y.name = "<init>"
theorem z_run {p : Program} {l : Launch} {e : Env} {R : Room} {s : State} {m : MethodId} {args : Array Value} {below : List Frame} {meth : Method} {c : Code} {g : zG} {Q : State → Prop} {H : Heap} {locs : List Loc} {cells slots mcy msy : Nat} {ls : Array Slot} {st0 : List Value} {a : Array Value}
    (hS : va_S (zA g) s.heap H locs) (hk : cells + mcy ≤ k) (hm : slots + msy ≤ n) (hl : zL ls nL L)
    (hr : va_Run p l e R s m args below meth c H locs cells slots mcy msy (F0 m pc ls st0) st (zQc g (fun v h' => ZP (p, l, e, R, s, m, args, below, meth, c, g, Q) nL (fun x => x = h') k n L (pc + 3) (v.toList ++ st)) a) (zA g)) :
    zWw (p, l, e, R, s, m, args, below, meth, c, g, Q) H locs cells slots (F0 m pc ls st0) := by
  intro T hT X
  obtain ⟨v, st₀, t, T', L9, h0, X', hL, e1, e2, ⟨⟨v', h', hv, hp, hHt⟩, hF⟩, stp⟩ := hr T hT X
  cases hv
  obtain ⟨k1, k2, k3⟩ := vx_keep (A0 := zA g) (free := zA g) h0 e1 hS (fun _ _ h => h) (fun _ h => h) hL hF
  obtain ⟨t2, a1, b1⟩ := hp h' T'.heap (locs ++ L9) (cells + mcy) (slots + msy) ls rfl (by rw [e1]; exact hHt) k3 hk hm hl T' rfl X'
  exact ⟨t2, stp t2 a1, b1⟩
theorem z_callS (X : zX C cc own nL ret d mc ms post) {y : MethodName} {cy : ByteArray} {mL N idx dy mcy msy : Nat} {rt : Option FieldType} {vs st0 : List Value} (Y : zYS y cy mL rt N) (hq : Cond.methodLink own idx y ∈ lw_all) (hd : decode cc pc = .ok (.invokestatic idx, 3)) (hn : pc + 3 = pc') (hdd : dy + 1 ≤ d) (hk : k + mcy ≤ mc) (hm : n + msy ≤ ms) (hst : st0 = vs.reverse ++ st) (hlen : vs.length = N) (hcat : (st.map fun v => v.category).sum ≤ 8)
    (hM : ∀ h, Φ h → zMet C.2.1 y cy mL rt dy mcy msy vs (zg C) h (fun v h' => ZP C nL (fun x => x = h') (k + mcy) (n + msy) L pc' (v.toList ++ st))) : ZP C nL Φ k n L pc st0 := by
  obtain ⟨p, l, e, R, s, m, args, below, meth, c, g, Q⟩ := C
  obtain ⟨hx, hb, hml, hown, hts, hret, hlk, hK, hR, hQ⟩ := X
  subst hn
  intro h H locs cells slots ls h1 h2 h3 h4 h5 h6
  obtain ⟨⟨w1, w2, w3⟩, hdy, hmL⟩ := Y
  have hRR : R = zrm d mc ms := hR
  refine z_run (mcy := mcy) (msy := msy) h3 (by omega) (by omega) h6 (va_runS (As := vs) (rest := st) ⟨hx, hb, hml, hown, hts⟩ (hM h h1) (va_cwS N hts (lw_S hq w1 w2 w3) rfl rfl rfl hdy ⟨by rw [hRR]; exact hdd, by rw [hRR]; show 8 + (mL + 11) + 40 * dy ≤ 40 * d; omega⟩) ⟨zblind _ _ _, fun U hU hW => ⟨rfl, hK.S hW (by rw [hU]; exact h3), by rw [hU]; exact h2⟩⟩ rfl hlen h6.1 hst (lv_room hcat) hd ⟨by rw [hRR]; show cells + mcy ≤ mc; omega, by rw [hRR]; show slots + msy ≤ ms; omega⟩)
theorem z_callV (X : zX C cc own nL ret d mc ms post) {y : MethodName} {cy : ByteArray} {mL N idx dy mcy msy b ci : Nat} {rt : Option FieldType} {vs st0 : List Value} {T : u_T} {Nf : Nat} (Y : zYV y cy mL rt N) (hq : Cond.methodLink own idx y ∈ lw_all) (hd : decode cc pc = .ok (.invokevirtual idx, 3)) (hn : pc + 3 = pc') (hdd : dy + 1 ≤ d) (hk : k + mcy ≤ mc) (hm : n + msy ≤ ms) (hst : st0 = vs.reverse ++ vR b :: st) (hlen : vs.length = N) (hcat : (st.map fun v => v.category).sum ≤ 8)
    (hc : zCl[ci]? = some (y.cls, T, Nf)) (hh : ∀ h, Φ h → ∃ fs, h b = some (zO ci fs))
    (hM : ∀ h, Φ h → zMet C.2.1 y cy mL rt dy mcy msy (vR b :: vs) (zg C) h (fun v h' => ZP C nL (fun x => x = h') (k + mcy) (n + msy) L pc' (v.toList ++ st))) : ZP C nL Φ k n L pc st0 := by
  obtain ⟨p, l, e, R, s, m, args, below, meth, c, g, Q⟩ := C
  obtain ⟨hx, hb, hml, hown, hts, hret, hlk, hK, hR, hQ⟩ := X
  subst hn
  intro h H locs cells slots ls h1 h2 h3 h4 h5 h6
  obtain ⟨⟨w1, w2, w3, w4⟩, hdy, hmL⟩ := Y
  have hRR : R = zrm d mc ms := hR
  obtain ⟨fs, hfs⟩ := hh h h1
  have hat : va_at g.1 zCl (b, .inr (ci, fs)) H := (h2 b _ hfs).2
  refine z_run (mcy := mcy) (msy := msy) h3 (by omega) (by omega) h6 (va_runV (As := vs) (rest := st) ⟨hx, hb, hml, hown, hts⟩ (hM h h1) (cwV N hts (lw_V hq w1 w2 w3 w4) rfl rfl rfl ⟨rfl, hdy⟩ ⟨by rw [hRR]; exact hdd, by rw [hRR]; show 8 + (mL + 11) + 40 * dy ≤ 40 * d; omega⟩) ⟨zblind _ _ _, va_recv (q0 := 0) (ci := ci) (fs := fs) hK.facts.1 (zP1 hat) hc rfl, fun U hU hW => ⟨rfl, hK.S hW (by rw [hU]; exact h3), by rw [hU]; exact h2⟩⟩ rfl hlen h6.1 hst (lv_room hcat) hd ⟨by rw [hRR]; show cells + mcy ≤ mc; omega, by rw [hRR]; show slots + msy ≤ ms; omega⟩)
theorem z_callI (X : zX C cc own nL ret d mc ms post) {y : MethodName} {cy : ByteArray} {mL N idx dy mcy msy b : Nat} {vs st0 : List Value} (Y : zYI y cy mL N) (hq : Cond.methodLink own idx y ∈ lw_all) (hd : decode cc pc = .ok (.invokespecial idx, 3)) (hn : pc + 3 = pc') (hdd : dy + 1 ≤ d) (hk : k + mcy ≤ mc) (hm : n + msy ≤ ms) (hst : st0 = vs.reverse ++ vR b :: st) (hlen : vs.length = N) (hcat : (st.map fun v => v.category).sum ≤ 8)
    (hM : ∀ h, Φ h → zMet C.2.1 y cy mL none dy mcy msy (vR b :: vs) (zg C) h (fun v h' => ZP C nL (fun x => x = h') (k + mcy) (n + msy) L pc' (v.toList ++ st))) : ZP C nL Φ k n L pc st0 := by
  obtain ⟨p, l, e, R, s, m, args, below, meth, c, g, Q⟩ := C
  obtain ⟨hx, hb, hml, hown, hts, hret, hlk, hK, hR, hQ⟩ := X
  subst hn
  intro h H locs cells slots ls h1 h2 h3 h4 h5 h6
  obtain ⟨⟨w1, w2, w3⟩, hdy, hmL, hnm⟩ := Y
  have hRR : R = zrm d mc ms := hR
  refine z_run (mcy := mcy) (msy := msy) h3 (by omega) (by omega) h6 (va_runI (As := vs) (rest := st) ⟨hx, hb, hml, hown, hts⟩ (hM h h1) (cwI N hts (lw_meth w3) rfl rfl rfl (hts _ w2) (hts _ hq) (hts _ w1) hnm hdy ⟨by rw [hRR]; exact hdd, by rw [hRR]; show 8 + (mL + 11) + 40 * dy ≤ 40 * d; omega⟩) ⟨zblind _ _ _, fun U hU hW => ⟨rfl, hK.S hW (by rw [hU]; exact h3), by rw [hU]; exact h2⟩⟩ rfl hlen h6.1 hst (lv_room hcat) hd ⟨by rw [hRR]; show cells + mcy ≤ mc; omega, by rw [hRR]; show slots + msy ≤ ms; omega⟩)
theorem lv_args_at : ∀ (vs : List Value) (o i : Nat) (v : Value), (∀ w ∈ vs, w.category = 1) → vs[i]? = some v → (o + i, v) ∈ lv_args o vs
  | [], o, i, v, _, h => by simp at h
  | w :: vs, o, 0, v, hc, h => by
    simp only [List.getElem?_cons_zero, Option.some.injEq] at h
    subst h
    exact List.mem_cons_self
  | w :: vs, o, i + 1, v, hc, h => by
    simp only [List.getElem?_cons_succ] at h
    have h1 := hc w List.mem_cons_self
    have h2 := lv_args_at vs (o + 1) i v (fun x hx => hc x (List.mem_cons_of_mem _ hx)) h
    unfold lv_args
    rw [if_neg (by omega)]
    rw [show o + (i + 1) = o + 1 + i by omega]
    exact List.mem_cons_of_mem _ h2
/-- a contract out of the walk of its body -/
theorem zMet.mk {l : Launch} {y : MethodName} {cy : ByteArray} {mL : Nat} {rt : Option FieldType} {dy a b : Nat} {vs : List Value} {g : zG} {h : GH} {P : Option Value → GH → Prop} {L0 : List (Option Value)} (hy : plainName y.cls = true) (hcat : vs.all (fun v => v.category == 1) = true) (hlen : (lg_sl vs).length ≤ mL) (hL0 : vs.map some ++ List.replicate (mL - vs.length) none = L0)
    (body : ∀ C : ZC, zg C = g → C.2.1 = l → C.2.2.2.2.2.2.2.2.1.name = y.name → zX C cy y.cls mL rt dy a b P → ZP C mL (fun x => x = h) 0 0 L0 0 []) : zMet l y cy mL rt dy a b vs g h P := by
  refine Met.ofW (cc := cy) (maxL := mL) (ret := rt) hy rfl ?_
  intro p e s m args below meth c s₁ B hml hv
  obtain ⟨rfl, hK, hH⟩ := hv
  have hts := atoms_spec (ws := ws_ y cy mL rt) B.pre
  have hts' : ∀ w ∈ lw_all, w.before _ s = true := fun w hw => hts w (List.mem_cons_of_mem _ hw)
  have hown : s.vm.findClass y.cls = some m.cls := findClass_of_methodNamed B.named
  have hl := lv_entry vs hlen
  rw [lg_entry_eq]
  refine body (p, l, e, (headSpec (ws_ y cy mL rt) (zrm dy a b)).room, s, m, vs.toArray, below, meth, c, g, MQ below (zQc g P) vs.toArray s a b (zA g)) rfl rfl (name_of_methodNamed B.named B.method).1 ⟨B.exec, B.bytes, hml, hown, hts', B.returns, B.notSynchronized, hK, rfl, fun _ _ _ _ _ hw => hw⟩ h s.heap [] 0 0 _ rfl hH va_S.rf (Nat.le_refl 0) (Nat.le_refl 0) (zL.of_args hl fun i v hi => ?_)
  subst hL0
  have hlt : i < vs.length := by
    rcases Nat.lt_or_ge i vs.length with q | q
    · exact q
    · rw [List.getElem?_append_right (by simpa using q)] at hi
      simp [List.getElem?_replicate] at hi
  rw [List.getElem?_append_left (by simpa using hlt), List.getElem?_map] at hi
  have h9 : vs[i]? = some v := by
    cases hg : vs[i]? with
    | none => rw [hg] at hi; cases hi
    | some w => rw [hg] at hi; simpa using hi
  have := lv_args_at vs 0 i v (fun w hw => by simpa using List.all_eq_true.mp hcat w hw) h9
  simpa using this
end ZMEM
