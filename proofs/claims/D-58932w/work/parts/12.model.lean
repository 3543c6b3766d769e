/-! THE MODEL's MEMORY as one function: row 0 its numbers (states, isKept, length, thrown, fresh, spot, toldMany), rows 1..9 its arrays (now, past, kept, aside, pounds, mouldy, text, told, mix) -/
section ZMODEL
abbrev MM : Type := Nat → Int → Int
def mset (M : MM) (r : Nat) (k z : Int) : MM := fun r' => if r' = r then iup (M r) k z else M r'
theorem mset_s {M : MM} {r : Nat} {k z : Int} : mset M r k z r k = z := by
  unfold mset
  rw [if_pos rfl, iup_s]
theorem mset_r {M : MM} {r r' : Nat} {k z : Int} (h : r' ≠ r) : mset M r k z r' = M r' := if_neg h
theorem mset_k {M : MM} {r : Nat} {k k' z : Int} (h : k' ≠ k) : mset M r k z r k' = M r k' := by
  unfold mset
  rw [if_pos rfl, iup_n h]
theorem mset_n {M : MM} {r r' : Nat} {k k' z : Int} (h : r' ≠ r ∨ k' ≠ k) : mset M r k z r' k' = M r' k' := by
  by_cases hr : r' = r
  · subst hr
    rcases h with h | h
    · exact absurd rfl h
    · exact mset_k h
  · rw [mset_r hr]
abbrev mR (M : MM) : Prop := ∀ r k, rng (M r k)
theorem mset_R {M : MM} (h : mR M) {r : Nat} {k z : Int} (hz : rng z) : mR (mset M r k z) := by
  intro r' k'
  by_cases hh : r' ≠ r ∨ k' ≠ k
  · rw [mset_n hh]
    exact h r' k'
  · have h1 : r' = r := Classical.byContradiction fun q => hh (Or.inl q)
    have h2 : k' = k := Classical.byContradiction fun q => hh (Or.inr q)
    subst h1 h2
    rw [mset_s]
    exact hz
def mfs (ma : Nat → Nat) (M : MM) : List Value := [vR (ma 1), vR (ma 2), vI (M 0 0), vR (ma 3), vI (M 0 1), vR (ma 4), vR (ma 5), vR (ma 6), vR (ma 7), vI (M 0 2), vI (M 0 3), vI (M 0 4), vI (M 0 5), vR (ma 8), vI (M 0 6), vR (ma 9)]
def msz (r : Nat) : Nat := [0, 321, 1605, 321, 321, 4, 26, 60, 186, 20].getD r 0
def mW (ma : Nat → Nat) (M : MM) (h : GH) : Prop := h (ma 0) = some (zO 6 (mfs ma M)) ∧ (∀ r, 1 ≤ r → r < 10 → h (ma r) = some (zAi 10 (msz r) (M r))) ∧ (∀ i j, i < 10 → j < 10 → ma i = ma j → i = j) ∧ mR M
/-- outside the model's ten cells the ghost heap is h0's -/
def mO (ma : Nat → Nat) (h0 h : GH) : Prop := ∀ q, (∀ r, r < 10 → q ≠ ma r) → h q = h0 q
def mF (ma : Nat → Nat) (h0 : GH) (M : MM) (h : GH) : Prop := mW ma M h ∧ mO ma h0 h
theorem mO.rf {ma : Nat → Nat} {h : GH} : mO ma h h := fun _ _ => rfl
theorem mO.tr {ma : Nat → Nat} {h1 h2 h3 : GH} (a : mO ma h1 h2) (b : mO ma h2 h3) : mO ma h1 h3 := fun q hq => (b q hq).trans (a q hq)
theorem mfs_put {ma : Nat → Nat} {M : MM} {z : Int} : (mfs ma M).set 2 (vI z) = mfs ma (mset M 0 0 z) ∧ (mfs ma M).set 4 (vI z) = mfs ma (mset M 0 1 z) ∧ (mfs ma M).set 9 (vI z) = mfs ma (mset M 0 2 z) ∧ (mfs ma M).set 10 (vI z) = mfs ma (mset M 0 3 z) ∧ (mfs ma M).set 11 (vI z) = mfs ma (mset M 0 4 z) ∧ (mfs ma M).set 12 (vI z) = mfs ma (mset M 0 5 z) ∧ (mfs ma M).set 14 (vI z) = mfs ma (mset M 0 6 z) := by
  refine ⟨?_, ?_, ?_, ?_, ?_, ?_, ?_⟩ <;> simp [mfs, mset, iup]
/-- the number field kf of the object is row 0's place fk kf -/
def mfk (kf : Nat) : Int := [0, 0, 0, 0, 1, 0, 0, 0, 0, 2, 3, 4, 5, 0, 6].getD kf 0
theorem mfs_set {ma : Nat → Nat} {M : MM} {z : Int} {kf : Nat} (hk : kf ∈ [2, 4, 9, 10, 11, 12, 14]) : (mfs ma M).set kf (vI z) = mfs ma (mset M 0 (mfk kf) z) := by
  obtain ⟨a, b, c, d, e, f, g⟩ := mfs_put (ma := ma) (M := M) (z := z)
  simp only [List.mem_cons, List.not_mem_nil, or_false] at hk
  rcases hk with rfl | rfl | rfl | rfl | rfl | rfl | rfl <;> assumption
theorem mW.put {ma : Nat → Nat} {M : MM} {h : GH} {k z : Int} (hW : mW ma M h) (hz : rng z) : mW ma (mset M 0 k z) (hset h (ma 0) (zO 6 (mfs ma (mset M 0 k z)))) := by
  obtain ⟨h1, h2, h3, h4⟩ := hW
  refine ⟨hset_s, fun r hr1 hr2 => ?_, h3, mset_R h4 hz⟩
  rw [hset_n (fun e => absurd (h3 r 0 hr2 (by decide) e) (by omega)), h2 r hr1 hr2, mset_r (by omega)]
theorem mW.sto {ma : Nat → Nat} {M : MM} {h : GH} {r : Nat} {k z : Int} (hW : mW ma M h) (hr1 : 1 ≤ r) (hr2 : r < 10) (hz : rng z) : mW ma (mset M r k z) (hset h (ma r) (zAi 10 (msz r) (iup (M r) k z))) := by
  obtain ⟨h1, h2, h3, h4⟩ := hW
  refine ⟨?_, fun r' hr3 hr4 => ?_, h3, mset_R h4 hz⟩
  · rw [hset_n (fun e => absurd (h3 0 r (by decide) hr2 e) (by omega)), h1]
    have e : mset M r k z 0 = M 0 := mset_r (by omega)
    unfold mfs
    rw [e]
  · by_cases hr : r' = r
    · subst hr
      rw [hset_s]
      unfold mset
      rw [if_pos rfl]
    · rw [hset_n (fun e => hr (h3 r' r hr4 hr2 e)), h2 r' hr3 hr4, mset_r hr]
theorem mO.set {ma : Nat → Nat} {h0 h : GH} {r : Nat} {e : zE} (hr : r < 10) (hO : mO ma h0 h) : mO ma h0 (hset h (ma r) e) := fun q hq => by
  rw [hset_n (hq r hr)]
  exact hO q hq
variable {C : ZC} {cc : ByteArray} {own : String} {nL : Nat} {ret : Option FieldType} {d mc ms : Nat} {post : Option Value → GH → Prop} {Φ : GH → Prop} {k n : Nat} {L : List (Option Value)} {pc pc' : Nat} {st : List Value} {ma : Nat → Nat} {h0 : GH} {M : MM}
theorem msz_le (r : Nat) : msz r ≤ 2147483647 := by
  unfold msz
  match r with
  | 0 | 1 | 2 | 3 | 4 | 5 | 6 | 7 | 8 | 9 => decide
  | n + 10 => simp [List.getD_eq_getElem?_getD]
theorem z_mget (X : zX C cc own nL ret d mc ms post) {idx : Nat} (kf : Nat) {v : Value} (hv : (mfs ma M)[kf]? = some v) (hk : kf < 16) (hq : Cond.fieldLink own idx RX8 (TX8 kf).2.1 (TX8 kf).2.2.1 ∈ lw_all) (hs : RX8 = (TX8 kf).1) (hd : decode cc pc = .ok (.getfield idx, 3)) (hn : pc + 3 = pc')
    (kk : ZP C nL (mF ma h0 M) k n L pc' (v :: st)) : ZP C nL (mF ma h0 M) k n L pc (vR (ma 0) :: st) :=
  z_get X (ci := 6) (fs := mfs ma M) in_X8 rfl hk hq (Or.inl hs) (fun _ h => h.1.1) hv hd hn kk
theorem z_mput (X : zX C cc own nL ret d mc ms post) {idx : Nat} (kf : Nat) (j : Int) (hj : mfk kf = j) {z : Int} (hk : kf ∈ [2, 4, 9, 10, 11, 12, 14]) (hq : Cond.fieldLink own idx RX8 (TX8 kf).2.1 (TX8 kf).2.2.1 ∈ lw_all) (hs : RX8 = (TX8 kf).1) (hfin : (TX8 kf).2.2.2 = false) (hty : tyX8 kf = .int) (hz : rng z) (hd : decode cc pc = .ok (.putfield idx, 3)) (hn : pc + 3 = pc')
    (kk : mR (mset M 0 j z) → ZP C nL (mF ma h0 (mset M 0 j z)) k n L pc' st) : ZP C nL (mF ma h0 M) k n L pc (vI z :: vR (ma 0) :: st) := by
  subst hj
  have hk16 : kf < 16 := by
    simp only [List.mem_cons, List.not_mem_nil, or_false] at hk
    omega
  refine ZP.fact (fun _ h => mset_R (r := 0) (k := mfk kf) h.1.2.2.2 hz) fun hh => ?_
  refine z_put X (ci := 6) (fs := mfs ma M) in_X8 tyX8 tyX8_ok nmX8 rfl hk16 hq (Or.inl hs) hfin (by rw [hty]; rfl) (by rw [hty]; rfl) (by exact hk16) (fun _ h => h.1.1) (fun h hh => ?_) hd hn (kk hh)
  rw [mfs_set hk]
  exact ⟨hh.1.put hz, hh.2.set (by decide)⟩
theorem z_mld (X : zX C cc own nL ret d mc ms post) {r : Nat} {i : Int} (hr : 1 ≤ r ∧ r < 10) (hi : 0 ≤ i ∧ i < msz r) (hd : decode cc pc = .ok (.iaload, 1)) (hn : pc + 1 = pc')
    (kk : rng (M r i) → ZP C nL (mF ma h0 M) k n L pc' (vI (M r i) :: st)) : ZP C nL (mF ma h0 M) k n L pc (vI i :: vR (ma r) :: st) :=
  ZP.fact (fun _ h => h.1.2.2.2 r i) fun hh => z_iald X (fun _ h => h.1.2.1 r hr.1 hr.2) hi (msz_le r) hd hn (kk hh)
theorem z_mst (X : zX C cc own nL ret d mc ms post) {r : Nat} {i z : Int} (hr : 1 ≤ r ∧ r < 10) (hi : 0 ≤ i ∧ i < msz r) (hz : rng z) (hd : decode cc pc = .ok (.iastore, 1)) (hn : pc + 1 = pc')
    (kk : mR (mset M r i z) → ZP C nL (mF ma h0 (mset M r i z)) k n L pc' st) : ZP C nL (mF ma h0 M) k n L pc (vI z :: vI i :: vR (ma r) :: st) :=
  ZP.fact (fun _ h => mset_R h.1.2.2.2 hz) fun hh => z_iast X (fun _ h => h.1.2.1 r hr.1 hr.2) hi (msz_le r) (fun _ h => ⟨h.1.sto hr.1 hr.2 hz, h.2.set hr.2⟩) hd hn (kk hh)
/-- a method that only tells: the heap stays, the answer is an int with P -/
def zFun (l : Launch) (y : MethodName) (cy : ByteArray) (mL : Nat) (rt : Option FieldType) (dy : Nat) (vs : List Value) (g : zG) (h : GH) (P : Int → Prop) : Prop :=
  zMet l y cy mL rt dy 0 0 vs g h (fun v h' => h' = h ∧ ∃ r, v = some (vI r) ∧ rng r ∧ P r)
/-- a method of the model's that changes its memory and answers an int -/
def mInt (l : Launch) (y : MethodName) (cy : ByteArray) (mL : Nat) (rt : Option FieldType) (dy : Nat) (vs : List Value) (g : zG) (ma : Nat → Nat) (M : MM) (P : Int → MM → Prop) : Prop :=
  ∀ h, mW ma M h → zMet l y cy mL rt dy 0 0 vs g h (fun v h' => ∃ M', mF ma h M' h' ∧ ∃ r, v = some (vI r) ∧ rng r ∧ P r M')
def mVoid (l : Launch) (y : MethodName) (cy : ByteArray) (mL : Nat) (dy : Nat) (vs : List Value) (g : zG) (ma : Nat → Nat) (M : MM) (P : MM → Prop) : Prop :=
  ∀ h, mW ma M h → zMet l y cy mL none dy 0 0 vs g h (fun v h' => ∃ M', mF ma h M' h' ∧ v = none ∧ P M')
def mFun (l : Launch) (y : MethodName) (cy : ByteArray) (mL : Nat) (rt : Option FieldType) (dy : Nat) (vs : List Value) (g : zG) (ma : Nat → Nat) (M : MM) (P : Int → Prop) : Prop :=
  ∀ h, mW ma M h → zFun l y cy mL rt dy vs g h P
theorem z_S_fun (X : zX C cc own nL ret d mc ms post) {y : MethodName} {cy : ByteArray} {mL N idx dy : Nat} {rt : Option FieldType} {st0 : List Value} (vs : List Value) {P : Int → Prop} (Y : zYS y cy mL rt N) (hq : Cond.methodLink own idx y ∈ lw_all) (hd : decode cc pc = .ok (.invokestatic idx, 3)) (hn : pc + 3 = pc') (hdd : dy + 1 ≤ d) (hk : k ≤ mc) (hm : n ≤ ms) (hst : st0 = vs.reverse ++ st) (hlen : vs.length = N) (hcat : (st.map fun v => v.category).sum ≤ 8)
    (hM : ∀ h, Φ h → zFun C.2.1 y cy mL rt dy vs (zg C) h P) (kk : ∀ r, rng r → P r → ZP C nL Φ k n L pc' (vI r :: st)) : ZP C nL Φ k n L pc st0 := by
  refine z_callS X (vs := vs) Y hq hd hn hdd hk hm hst hlen hcat fun h hh => (hM h hh).imp fun v h' hp => ?_
  obtain ⟨rfl, r, rfl, hr, hp⟩ := hp
  exact ZP.imp (fun x hx => by subst hx; exact hh) (kk r hr hp)
theorem z_V_fun (X : zX C cc own nL ret d mc ms post) {y : MethodName} {cy : ByteArray} {mL N idx dy : Nat} {rt : Option FieldType} {st0 : List Value} (vs : List Value) {P : Int → Prop} (hcls : y.cls = RX8) (Y : zYV y cy mL rt N) (hq : Cond.methodLink own idx y ∈ lw_all) (hd : decode cc pc = .ok (.invokevirtual idx, 3)) (hn : pc + 3 = pc') (hdd : dy + 1 ≤ d) (hk : k ≤ mc) (hm : n ≤ ms) (hst : st0 = vs.reverse ++ vR (ma 0) :: st) (hlen : vs.length = N) (hcat : (st.map fun v => v.category).sum ≤ 8)
    (hM : mFun C.2.1 y cy mL rt dy (vR (ma 0) :: vs) (zg C) ma M P) (kk : ∀ r, rng r → P r → ZP C nL (mF ma h0 M) k n L pc' (vI r :: st)) : ZP C nL (mF ma h0 M) k n L pc st0 := by
  refine z_callV X (vs := vs) (b := ma 0) (ci := 6) (T := TX8) (Nf := 16) Y hq hd hn hdd hk hm hst hlen hcat (by rw [hcls]; rfl) (fun _ h => ⟨_, h.1.1⟩) fun h hh => (hM h hh.1).imp fun v h' hp => ?_
  obtain ⟨rfl, r, rfl, hr, hp⟩ := hp
  exact ZP.imp (fun x hx => by subst hx; exact hh) (kk r hr hp)
theorem z_V_int (X : zX C cc own nL ret d mc ms post) {y : MethodName} {cy : ByteArray} {mL N idx dy : Nat} {rt : Option FieldType} {st0 : List Value} (vs : List Value) {P : Int → MM → Prop} (hcls : y.cls = RX8) (Y : zYV y cy mL rt N) (hq : Cond.methodLink own idx y ∈ lw_all) (hd : decode cc pc = .ok (.invokevirtual idx, 3)) (hn : pc + 3 = pc') (hdd : dy + 1 ≤ d) (hk : k ≤ mc) (hm : n ≤ ms) (hst : st0 = vs.reverse ++ vR (ma 0) :: st) (hlen : vs.length = N) (hcat : (st.map fun v => v.category).sum ≤ 8)
    (hM : mInt C.2.1 y cy mL rt dy (vR (ma 0) :: vs) (zg C) ma M P) (kk : ∀ r M', rng r → P r M' → mR M' → ZP C nL (mF ma h0 M') k n L pc' (vI r :: st)) : ZP C nL (mF ma h0 M) k n L pc st0 := by
  refine z_callV X (vs := vs) (b := ma 0) (ci := 6) (T := TX8) (Nf := 16) Y hq hd hn hdd hk hm hst hlen hcat (by rw [hcls]; rfl) (fun _ h => ⟨_, h.1.1⟩) fun h hh => (hM h hh.1).imp fun v h' hp => ?_
  obtain ⟨M', hF, r, rfl, hr, hp⟩ := hp
  exact ZP.imp (fun x hx => by subst hx; exact ⟨hF.1, hh.2.tr hF.2⟩) (kk r M' hr hp hF.1.2.2.2)
theorem z_V_void (X : zX C cc own nL ret d mc ms post) {y : MethodName} {cy : ByteArray} {mL N idx dy : Nat} {st0 : List Value} (vs : List Value) {P : MM → Prop} (hcls : y.cls = RX8) (Y : zYV y cy mL none N) (hq : Cond.methodLink own idx y ∈ lw_all) (hd : decode cc pc = .ok (.invokevirtual idx, 3)) (hn : pc + 3 = pc') (hdd : dy + 1 ≤ d) (hk : k ≤ mc) (hm : n ≤ ms) (hst : st0 = vs.reverse ++ vR (ma 0) :: st) (hlen : vs.length = N) (hcat : (st.map fun v => v.category).sum ≤ 8)
    (hM : mVoid C.2.1 y cy mL dy (vR (ma 0) :: vs) (zg C) ma M P) (kk : ∀ M', P M' → mR M' → ZP C nL (mF ma h0 M') k n L pc' st) : ZP C nL (mF ma h0 M) k n L pc st0 := by
  refine z_callV X (vs := vs) (b := ma 0) (ci := 6) (T := TX8) (Nf := 16) Y hq hd hn hdd hk hm hst hlen hcat (by rw [hcls]; rfl) (fun _ h => ⟨_, h.1.1⟩) fun h hh => (hM h hh.1).imp fun v h' hp => ?_
  obtain ⟨M', hF, rfl, hp⟩ := hp
  exact ZP.imp (fun x hx => by subst hx; exact ⟨hF.1, hh.2.tr hF.2⟩) (kk M' hp hF.1.2.2.2)
/-- the contract of a telling method out of its walk -/
theorem zFun.mk {l : Launch} {y : MethodName} {cy : ByteArray} {mL : Nat} {rt : Option FieldType} {dy : Nat} {vs : List Value} {g : zG} {h : GH} {P : Int → Prop} {L0 : List (Option Value)} (hy : plainName y.cls = true) (hcat : vs.all (fun v => v.category == 1) = true) (hlen : (lg_sl vs).length ≤ mL) (hL0 : vs.map some ++ List.replicate (mL - vs.length) none = L0)
    (body : ∀ C : ZC, zg C = g → C.2.1 = l → zX C cy y.cls mL rt dy 0 0 (fun v h' => h' = h ∧ ∃ r, v = some (vI r) ∧ rng r ∧ P r) → ZP C mL (fun x => x = h) 0 0 L0 0 []) : zFun l y cy mL rt dy vs g h P :=
  zMet.mk hy hcat hlen hL0 (fun C h1 h2 _ h3 => body C h1 h2 h3)
theorem mF.eq {h h' : GH} (hF : mF ma h M h') (hW : mW ma M h) : h' = h := by
  funext q
  by_cases hq : ∃ r, r < 10 ∧ q = ma r
  · obtain ⟨r, hr, rfl⟩ := hq
    match r, hr with
    | 0, _ => rw [hF.1.1, hW.1]
    | r + 1, hr => rw [hF.1.2.1 (r + 1) (by omega) hr, hW.2.1 (r + 1) (by omega) hr]
  · exact hF.2 q (fun r hr e => hq ⟨r, hr, e⟩)
theorem mFun.mk {l : Launch} {y : MethodName} {cy : ByteArray} {mL : Nat} {rt : Option FieldType} {dy : Nat} {vs : List Value} {g : zG} {P : Int → Prop} {L0 : List (Option Value)} (hy : plainName y.cls = true) (hcat : vs.all (fun v => v.category == 1) = true) (hlen : (lg_sl vs).length ≤ mL) (hL0 : vs.map some ++ List.replicate (mL - vs.length) none = L0)
    (body : ∀ (C : ZC) (h : GH), zg C = g → C.2.1 = l → mR M → zX C cy y.cls mL rt dy 0 0 (fun v h' => mF ma h M h' ∧ ∃ r, v = some (vI r) ∧ rng r ∧ P r) → ZP C mL (mF ma h M) 0 0 L0 0 []) : mFun l y cy mL rt dy vs g ma M P := by
  intro h hW
  refine zMet.imp (P := fun v h' => mF ma h M h' ∧ ∃ r, v = some (vI r) ∧ rng r ∧ P r) (fun v h' hp => ⟨hp.1.eq hW, hp.2⟩) (zMet.mk hy hcat hlen hL0 (fun C h1 h2 _ h3 => ZP.imp (fun x hx => by subst hx; exact ⟨hW, mO.rf⟩) (body C h h1 h2 hW.2.2.2 h3)))
theorem mInt.mk {l : Launch} {y : MethodName} {cy : ByteArray} {mL : Nat} {rt : Option FieldType} {dy : Nat} {vs : List Value} {g : zG} {P : Int → MM → Prop} {L0 : List (Option Value)} (hy : plainName y.cls = true) (hcat : vs.all (fun v => v.category == 1) = true) (hlen : (lg_sl vs).length ≤ mL) (hL0 : vs.map some ++ List.replicate (mL - vs.length) none = L0)
    (body : ∀ (C : ZC) (h : GH), zg C = g → C.2.1 = l → mR M → zX C cy y.cls mL rt dy 0 0 (fun v h' => ∃ M', mF ma h M' h' ∧ ∃ r, v = some (vI r) ∧ rng r ∧ P r M') → ZP C mL (mF ma h M) 0 0 L0 0 []) : mInt l y cy mL rt dy vs g ma M P :=
  fun h hW => zMet.mk hy hcat hlen hL0 (fun C h1 h2 _ h3 => ZP.imp (fun x hx => by subst hx; exact ⟨hW, mO.rf⟩) (body C h h1 h2 hW.2.2.2 h3))
theorem mVoid.mk {l : Launch} {y : MethodName} {cy : ByteArray} {mL : Nat} {dy : Nat} {vs : List Value} {g : zG} {P : MM → Prop} {L0 : List (Option Value)} (hy : plainName y.cls = true) (hcat : vs.all (fun v => v.category == 1) = true) (hlen : (lg_sl vs).length ≤ mL) (hL0 : vs.map some ++ List.replicate (mL - vs.length) none = L0)
    (body : ∀ (C : ZC) (h : GH), zg C = g → C.2.1 = l → mR M → zX C cy y.cls mL none dy 0 0 (fun v h' => ∃ M', mF ma h M' h' ∧ v = none ∧ P M') → ZP C mL (mF ma h M) 0 0 L0 0 []) : mVoid l y cy mL dy vs g ma M P :=
  fun h hW => zMet.mk hy hcat hlen hL0 (fun C h1 h2 _ h3 => ZP.imp (fun x hx => by subst hx; exact ⟨hW, mO.rf⟩) (body C h h1 h2 hW.2.2.2 h3))
theorem z_S_fun0 (X : zX C cc own nL ret d mc ms post) {y : MethodName} {cy : ByteArray} {mL idx dy : Nat} {rt : Option FieldType} {P : Int → Prop} (Y : zYS y cy mL rt 0) (hq : Cond.methodLink own idx y ∈ lw_all) (hd : decode cc pc = .ok (.invokestatic idx, 3)) (hn : pc + 3 = pc') (hdd : dy + 1 ≤ d) (hk : k ≤ mc) (hm : n ≤ ms) (hcat : (st.map fun v => v.category).sum ≤ 8)
    (hM : ∀ h, Φ h → zFun C.2.1 y cy mL rt dy [] (zg C) h P) (kk : ∀ r, rng r → P r → ZP C nL Φ k n L pc' (vI r :: st)) : ZP C nL Φ k n L pc (st) :=
  z_S_fun X [] Y hq hd hn hdd hk hm rfl rfl hcat hM kk
theorem z_V_fun0 (X : zX C cc own nL ret d mc ms post) {y : MethodName} {cy : ByteArray} {mL idx dy : Nat} {rt : Option FieldType} {P : Int → Prop} (hcls : y.cls = RX8) (Y : zYV y cy mL rt 0) (hq : Cond.methodLink own idx y ∈ lw_all) (hd : decode cc pc = .ok (.invokevirtual idx, 3)) (hn : pc + 3 = pc') (hdd : dy + 1 ≤ d) (hk : k ≤ mc) (hm : n ≤ ms) (hcat : (st.map fun v => v.category).sum ≤ 8)
    (hM : mFun C.2.1 y cy mL rt dy (vR (ma 0) :: []) (zg C) ma M P) (kk : ∀ r, rng r → P r → ZP C nL (mF ma h0 M) k n L pc' (vI r :: st)) : ZP C nL (mF ma h0 M) k n L pc (vR (ma 0) :: st) :=
  z_V_fun X [] hcls Y hq hd hn hdd hk hm rfl rfl hcat hM kk
theorem z_V_int0 (X : zX C cc own nL ret d mc ms post) {y : MethodName} {cy : ByteArray} {mL idx dy : Nat} {rt : Option FieldType} {P : Int → MM → Prop} (hcls : y.cls = RX8) (Y : zYV y cy mL rt 0) (hq : Cond.methodLink own idx y ∈ lw_all) (hd : decode cc pc = .ok (.invokevirtual idx, 3)) (hn : pc + 3 = pc') (hdd : dy + 1 ≤ d) (hk : k ≤ mc) (hm : n ≤ ms) (hcat : (st.map fun v => v.category).sum ≤ 8)
    (hM : mInt C.2.1 y cy mL rt dy (vR (ma 0) :: []) (zg C) ma M P) (kk : ∀ r M', rng r → P r M' → mR M' → ZP C nL (mF ma h0 M') k n L pc' (vI r :: st)) : ZP C nL (mF ma h0 M) k n L pc (vR (ma 0) :: st) :=
  z_V_int X [] hcls Y hq hd hn hdd hk hm rfl rfl hcat hM kk
theorem z_V_void0 (X : zX C cc own nL ret d mc ms post) {y : MethodName} {cy : ByteArray} {mL idx dy : Nat} {P : MM → Prop} (hcls : y.cls = RX8) (Y : zYV y cy mL none 0) (hq : Cond.methodLink own idx y ∈ lw_all) (hd : decode cc pc = .ok (.invokevirtual idx, 3)) (hn : pc + 3 = pc') (hdd : dy + 1 ≤ d) (hk : k ≤ mc) (hm : n ≤ ms) (hcat : (st.map fun v => v.category).sum ≤ 8)
    (hM : mVoid C.2.1 y cy mL dy (vR (ma 0) :: []) (zg C) ma M P) (kk : ∀ M', P M' → mR M' → ZP C nL (mF ma h0 M') k n L pc' st) : ZP C nL (mF ma h0 M) k n L pc (vR (ma 0) :: st) :=
  z_V_void X [] hcls Y hq hd hn hdd hk hm rfl rfl hcat hM kk
theorem z_S_fun1 (X : zX C cc own nL ret d mc ms post) {y : MethodName} {cy : ByteArray} {mL idx dy : Nat} {rt : Option FieldType} {a1 : Value} {P : Int → Prop} (Y : zYS y cy mL rt 1) (hq : Cond.methodLink own idx y ∈ lw_all) (hd : decode cc pc = .ok (.invokestatic idx, 3)) (hn : pc + 3 = pc') (hdd : dy + 1 ≤ d) (hk : k ≤ mc) (hm : n ≤ ms) (hcat : (st.map fun v => v.category).sum ≤ 8)
    (hM : ∀ h, Φ h → zFun C.2.1 y cy mL rt dy [a1] (zg C) h P) (kk : ∀ r, rng r → P r → ZP C nL Φ k n L pc' (vI r :: st)) : ZP C nL Φ k n L pc (a1 :: st) :=
  z_S_fun X [a1] Y hq hd hn hdd hk hm rfl rfl hcat hM kk
theorem z_V_fun1 (X : zX C cc own nL ret d mc ms post) {y : MethodName} {cy : ByteArray} {mL idx dy : Nat} {rt : Option FieldType} {a1 : Value} {P : Int → Prop} (hcls : y.cls = RX8) (Y : zYV y cy mL rt 1) (hq : Cond.methodLink own idx y ∈ lw_all) (hd : decode cc pc = .ok (.invokevirtual idx, 3)) (hn : pc + 3 = pc') (hdd : dy + 1 ≤ d) (hk : k ≤ mc) (hm : n ≤ ms) (hcat : (st.map fun v => v.category).sum ≤ 8)
    (hM : mFun C.2.1 y cy mL rt dy (vR (ma 0) :: [a1]) (zg C) ma M P) (kk : ∀ r, rng r → P r → ZP C nL (mF ma h0 M) k n L pc' (vI r :: st)) : ZP C nL (mF ma h0 M) k n L pc (a1 :: vR (ma 0) :: st) :=
  z_V_fun X [a1] hcls Y hq hd hn hdd hk hm rfl rfl hcat hM kk
theorem z_V_int1 (X : zX C cc own nL ret d mc ms post) {y : MethodName} {cy : ByteArray} {mL idx dy : Nat} {rt : Option FieldType} {a1 : Value} {P : Int → MM → Prop} (hcls : y.cls = RX8) (Y : zYV y cy mL rt 1) (hq : Cond.methodLink own idx y ∈ lw_all) (hd : decode cc pc = .ok (.invokevirtual idx, 3)) (hn : pc + 3 = pc') (hdd : dy + 1 ≤ d) (hk : k ≤ mc) (hm : n ≤ ms) (hcat : (st.map fun v => v.category).sum ≤ 8)
    (hM : mInt C.2.1 y cy mL rt dy (vR (ma 0) :: [a1]) (zg C) ma M P) (kk : ∀ r M', rng r → P r M' → mR M' → ZP C nL (mF ma h0 M') k n L pc' (vI r :: st)) : ZP C nL (mF ma h0 M) k n L pc (a1 :: vR (ma 0) :: st) :=
  z_V_int X [a1] hcls Y hq hd hn hdd hk hm rfl rfl hcat hM kk
theorem z_V_void1 (X : zX C cc own nL ret d mc ms post) {y : MethodName} {cy : ByteArray} {mL idx dy : Nat} {a1 : Value} {P : MM → Prop} (hcls : y.cls = RX8) (Y : zYV y cy mL none 1) (hq : Cond.methodLink own idx y ∈ lw_all) (hd : decode cc pc = .ok (.invokevirtual idx, 3)) (hn : pc + 3 = pc') (hdd : dy + 1 ≤ d) (hk : k ≤ mc) (hm : n ≤ ms) (hcat : (st.map fun v => v.category).sum ≤ 8)
    (hM : mVoid C.2.1 y cy mL dy (vR (ma 0) :: [a1]) (zg C) ma M P) (kk : ∀ M', P M' → mR M' → ZP C nL (mF ma h0 M') k n L pc' st) : ZP C nL (mF ma h0 M) k n L pc (a1 :: vR (ma 0) :: st) :=
  z_V_void X [a1] hcls Y hq hd hn hdd hk hm rfl rfl hcat hM kk
theorem z_S_fun2 (X : zX C cc own nL ret d mc ms post) {y : MethodName} {cy : ByteArray} {mL idx dy : Nat} {rt : Option FieldType} {a1 a2 : Value} {P : Int → Prop} (Y : zYS y cy mL rt 2) (hq : Cond.methodLink own idx y ∈ lw_all) (hd : decode cc pc = .ok (.invokestatic idx, 3)) (hn : pc + 3 = pc') (hdd : dy + 1 ≤ d) (hk : k ≤ mc) (hm : n ≤ ms) (hcat : (st.map fun v => v.category).sum ≤ 8)
    (hM : ∀ h, Φ h → zFun C.2.1 y cy mL rt dy [a1, a2] (zg C) h P) (kk : ∀ r, rng r → P r → ZP C nL Φ k n L pc' (vI r :: st)) : ZP C nL Φ k n L pc (a2 :: a1 :: st) :=
  z_S_fun X [a1, a2] Y hq hd hn hdd hk hm rfl rfl hcat hM kk
theorem z_V_fun2 (X : zX C cc own nL ret d mc ms post) {y : MethodName} {cy : ByteArray} {mL idx dy : Nat} {rt : Option FieldType} {a1 a2 : Value} {P : Int → Prop} (hcls : y.cls = RX8) (Y : zYV y cy mL rt 2) (hq : Cond.methodLink own idx y ∈ lw_all) (hd : decode cc pc = .ok (.invokevirtual idx, 3)) (hn : pc + 3 = pc') (hdd : dy + 1 ≤ d) (hk : k ≤ mc) (hm : n ≤ ms) (hcat : (st.map fun v => v.category).sum ≤ 8)
    (hM : mFun C.2.1 y cy mL rt dy (vR (ma 0) :: [a1, a2]) (zg C) ma M P) (kk : ∀ r, rng r → P r → ZP C nL (mF ma h0 M) k n L pc' (vI r :: st)) : ZP C nL (mF ma h0 M) k n L pc (a2 :: a1 :: vR (ma 0) :: st) :=
  z_V_fun X [a1, a2] hcls Y hq hd hn hdd hk hm rfl rfl hcat hM kk
theorem z_V_int2 (X : zX C cc own nL ret d mc ms post) {y : MethodName} {cy : ByteArray} {mL idx dy : Nat} {rt : Option FieldType} {a1 a2 : Value} {P : Int → MM → Prop} (hcls : y.cls = RX8) (Y : zYV y cy mL rt 2) (hq : Cond.methodLink own idx y ∈ lw_all) (hd : decode cc pc = .ok (.invokevirtual idx, 3)) (hn : pc + 3 = pc') (hdd : dy + 1 ≤ d) (hk : k ≤ mc) (hm : n ≤ ms) (hcat : (st.map fun v => v.category).sum ≤ 8)
    (hM : mInt C.2.1 y cy mL rt dy (vR (ma 0) :: [a1, a2]) (zg C) ma M P) (kk : ∀ r M', rng r → P r M' → mR M' → ZP C nL (mF ma h0 M') k n L pc' (vI r :: st)) : ZP C nL (mF ma h0 M) k n L pc (a2 :: a1 :: vR (ma 0) :: st) :=
  z_V_int X [a1, a2] hcls Y hq hd hn hdd hk hm rfl rfl hcat hM kk
theorem z_V_void2 (X : zX C cc own nL ret d mc ms post) {y : MethodName} {cy : ByteArray} {mL idx dy : Nat} {a1 a2 : Value} {P : MM → Prop} (hcls : y.cls = RX8) (Y : zYV y cy mL none 2) (hq : Cond.methodLink own idx y ∈ lw_all) (hd : decode cc pc = .ok (.invokevirtual idx, 3)) (hn : pc + 3 = pc') (hdd : dy + 1 ≤ d) (hk : k ≤ mc) (hm : n ≤ ms) (hcat : (st.map fun v => v.category).sum ≤ 8)
    (hM : mVoid C.2.1 y cy mL dy (vR (ma 0) :: [a1, a2]) (zg C) ma M P) (kk : ∀ M', P M' → mR M' → ZP C nL (mF ma h0 M') k n L pc' st) : ZP C nL (mF ma h0 M) k n L pc (a2 :: a1 :: vR (ma 0) :: st) :=
  z_V_void X [a1, a2] hcls Y hq hd hn hdd hk hm rfl rfl hcat hM kk
theorem z_S_fun3 (X : zX C cc own nL ret d mc ms post) {y : MethodName} {cy : ByteArray} {mL idx dy : Nat} {rt : Option FieldType} {a1 a2 a3 : Value} {P : Int → Prop} (Y : zYS y cy mL rt 3) (hq : Cond.methodLink own idx y ∈ lw_all) (hd : decode cc pc = .ok (.invokestatic idx, 3)) (hn : pc + 3 = pc') (hdd : dy + 1 ≤ d) (hk : k ≤ mc) (hm : n ≤ ms) (hcat : (st.map fun v => v.category).sum ≤ 8)
    (hM : ∀ h, Φ h → zFun C.2.1 y cy mL rt dy [a1, a2, a3] (zg C) h P) (kk : ∀ r, rng r → P r → ZP C nL Φ k n L pc' (vI r :: st)) : ZP C nL Φ k n L pc (a3 :: a2 :: a1 :: st) :=
  z_S_fun X [a1, a2, a3] Y hq hd hn hdd hk hm rfl rfl hcat hM kk
theorem z_V_fun3 (X : zX C cc own nL ret d mc ms post) {y : MethodName} {cy : ByteArray} {mL idx dy : Nat} {rt : Option FieldType} {a1 a2 a3 : Value} {P : Int → Prop} (hcls : y.cls = RX8) (Y : zYV y cy mL rt 3) (hq : Cond.methodLink own idx y ∈ lw_all) (hd : decode cc pc = .ok (.invokevirtual idx, 3)) (hn : pc + 3 = pc') (hdd : dy + 1 ≤ d) (hk : k ≤ mc) (hm : n ≤ ms) (hcat : (st.map fun v => v.category).sum ≤ 8)
    (hM : mFun C.2.1 y cy mL rt dy (vR (ma 0) :: [a1, a2, a3]) (zg C) ma M P) (kk : ∀ r, rng r → P r → ZP C nL (mF ma h0 M) k n L pc' (vI r :: st)) : ZP C nL (mF ma h0 M) k n L pc (a3 :: a2 :: a1 :: vR (ma 0) :: st) :=
  z_V_fun X [a1, a2, a3] hcls Y hq hd hn hdd hk hm rfl rfl hcat hM kk
theorem z_V_int3 (X : zX C cc own nL ret d mc ms post) {y : MethodName} {cy : ByteArray} {mL idx dy : Nat} {rt : Option FieldType} {a1 a2 a3 : Value} {P : Int → MM → Prop} (hcls : y.cls = RX8) (Y : zYV y cy mL rt 3) (hq : Cond.methodLink own idx y ∈ lw_all) (hd : decode cc pc = .ok (.invokevirtual idx, 3)) (hn : pc + 3 = pc') (hdd : dy + 1 ≤ d) (hk : k ≤ mc) (hm : n ≤ ms) (hcat : (st.map fun v => v.category).sum ≤ 8)
    (hM : mInt C.2.1 y cy mL rt dy (vR (ma 0) :: [a1, a2, a3]) (zg C) ma M P) (kk : ∀ r M', rng r → P r M' → mR M' → ZP C nL (mF ma h0 M') k n L pc' (vI r :: st)) : ZP C nL (mF ma h0 M) k n L pc (a3 :: a2 :: a1 :: vR (ma 0) :: st) :=
  z_V_int X [a1, a2, a3] hcls Y hq hd hn hdd hk hm rfl rfl hcat hM kk
theorem z_V_void3 (X : zX C cc own nL ret d mc ms post) {y : MethodName} {cy : ByteArray} {mL idx dy : Nat} {a1 a2 a3 : Value} {P : MM → Prop} (hcls : y.cls = RX8) (Y : zYV y cy mL none 3) (hq : Cond.methodLink own idx y ∈ lw_all) (hd : decode cc pc = .ok (.invokevirtual idx, 3)) (hn : pc + 3 = pc') (hdd : dy + 1 ≤ d) (hk : k ≤ mc) (hm : n ≤ ms) (hcat : (st.map fun v => v.category).sum ≤ 8)
    (hM : mVoid C.2.1 y cy mL dy (vR (ma 0) :: [a1, a2, a3]) (zg C) ma M P) (kk : ∀ M', P M' → mR M' → ZP C nL (mF ma h0 M') k n L pc' st) : ZP C nL (mF ma h0 M) k n L pc (a3 :: a2 :: a1 :: vR (ma 0) :: st) :=
  z_V_void X [a1, a2, a3] hcls Y hq hd hn hdd hk hm rfl rfl hcat hM kk
theorem z_S_fun4 (X : zX C cc own nL ret d mc ms post) {y : MethodName} {cy : ByteArray} {mL idx dy : Nat} {rt : Option FieldType} {a1 a2 a3 a4 : Value} {P : Int → Prop} (Y : zYS y cy mL rt 4) (hq : Cond.methodLink own idx y ∈ lw_all) (hd : decode cc pc = .ok (.invokestatic idx, 3)) (hn : pc + 3 = pc') (hdd : dy + 1 ≤ d) (hk : k ≤ mc) (hm : n ≤ ms) (hcat : (st.map fun v => v.category).sum ≤ 8)
    (hM : ∀ h, Φ h → zFun C.2.1 y cy mL rt dy [a1, a2, a3, a4] (zg C) h P) (kk : ∀ r, rng r → P r → ZP C nL Φ k n L pc' (vI r :: st)) : ZP C nL Φ k n L pc (a4 :: a3 :: a2 :: a1 :: st) :=
  z_S_fun X [a1, a2, a3, a4] Y hq hd hn hdd hk hm rfl rfl hcat hM kk
theorem z_V_fun4 (X : zX C cc own nL ret d mc ms post) {y : MethodName} {cy : ByteArray} {mL idx dy : Nat} {rt : Option FieldType} {a1 a2 a3 a4 : Value} {P : Int → Prop} (hcls : y.cls = RX8) (Y : zYV y cy mL rt 4) (hq : Cond.methodLink own idx y ∈ lw_all) (hd : decode cc pc = .ok (.invokevirtual idx, 3)) (hn : pc + 3 = pc') (hdd : dy + 1 ≤ d) (hk : k ≤ mc) (hm : n ≤ ms) (hcat : (st.map fun v => v.category).sum ≤ 8)
    (hM : mFun C.2.1 y cy mL rt dy (vR (ma 0) :: [a1, a2, a3, a4]) (zg C) ma M P) (kk : ∀ r, rng r → P r → ZP C nL (mF ma h0 M) k n L pc' (vI r :: st)) : ZP C nL (mF ma h0 M) k n L pc (a4 :: a3 :: a2 :: a1 :: vR (ma 0) :: st) :=
  z_V_fun X [a1, a2, a3, a4] hcls Y hq hd hn hdd hk hm rfl rfl hcat hM kk
theorem z_V_int4 (X : zX C cc own nL ret d mc ms post) {y : MethodName} {cy : ByteArray} {mL idx dy : Nat} {rt : Option FieldType} {a1 a2 a3 a4 : Value} {P : Int → MM → Prop} (hcls : y.cls = RX8) (Y : zYV y cy mL rt 4) (hq : Cond.methodLink own idx y ∈ lw_all) (hd : decode cc pc = .ok (.invokevirtual idx, 3)) (hn : pc + 3 = pc') (hdd : dy + 1 ≤ d) (hk : k ≤ mc) (hm : n ≤ ms) (hcat : (st.map fun v => v.category).sum ≤ 8)
    (hM : mInt C.2.1 y cy mL rt dy (vR (ma 0) :: [a1, a2, a3, a4]) (zg C) ma M P) (kk : ∀ r M', rng r → P r M' → mR M' → ZP C nL (mF ma h0 M') k n L pc' (vI r :: st)) : ZP C nL (mF ma h0 M) k n L pc (a4 :: a3 :: a2 :: a1 :: vR (ma 0) :: st) :=
  z_V_int X [a1, a2, a3, a4] hcls Y hq hd hn hdd hk hm rfl rfl hcat hM kk
theorem z_V_void4 (X : zX C cc own nL ret d mc ms post) {y : MethodName} {cy : ByteArray} {mL idx dy : Nat} {a1 a2 a3 a4 : Value} {P : MM → Prop} (hcls : y.cls = RX8) (Y : zYV y cy mL none 4) (hq : Cond.methodLink own idx y ∈ lw_all) (hd : decode cc pc = .ok (.invokevirtual idx, 3)) (hn : pc + 3 = pc') (hdd : dy + 1 ≤ d) (hk : k ≤ mc) (hm : n ≤ ms) (hcat : (st.map fun v => v.category).sum ≤ 8)
    (hM : mVoid C.2.1 y cy mL dy (vR (ma 0) :: [a1, a2, a3, a4]) (zg C) ma M P) (kk : ∀ M', P M' → mR M' → ZP C nL (mF ma h0 M') k n L pc' st) : ZP C nL (mF ma h0 M) k n L pc (a4 :: a3 :: a2 :: a1 :: vR (ma 0) :: st) :=
  z_V_void X [a1, a2, a3, a4] hcls Y hq hd hn hdd hk hm rfl rfl hcat hM kk
theorem z_S_fun5 (X : zX C cc own nL ret d mc ms post) {y : MethodName} {cy : ByteArray} {mL idx dy : Nat} {rt : Option FieldType} {a1 a2 a3 a4 a5 : Value} {P : Int → Prop} (Y : zYS y cy mL rt 5) (hq : Cond.methodLink own idx y ∈ lw_all) (hd : decode cc pc = .ok (.invokestatic idx, 3)) (hn : pc + 3 = pc') (hdd : dy + 1 ≤ d) (hk : k ≤ mc) (hm : n ≤ ms) (hcat : (st.map fun v => v.category).sum ≤ 8)
    (hM : ∀ h, Φ h → zFun C.2.1 y cy mL rt dy [a1, a2, a3, a4, a5] (zg C) h P) (kk : ∀ r, rng r → P r → ZP C nL Φ k n L pc' (vI r :: st)) : ZP C nL Φ k n L pc (a5 :: a4 :: a3 :: a2 :: a1 :: st) :=
  z_S_fun X [a1, a2, a3, a4, a5] Y hq hd hn hdd hk hm rfl rfl hcat hM kk
theorem z_V_fun5 (X : zX C cc own nL ret d mc ms post) {y : MethodName} {cy : ByteArray} {mL idx dy : Nat} {rt : Option FieldType} {a1 a2 a3 a4 a5 : Value} {P : Int → Prop} (hcls : y.cls = RX8) (Y : zYV y cy mL rt 5) (hq : Cond.methodLink own idx y ∈ lw_all) (hd : decode cc pc = .ok (.invokevirtual idx, 3)) (hn : pc + 3 = pc') (hdd : dy + 1 ≤ d) (hk : k ≤ mc) (hm : n ≤ ms) (hcat : (st.map fun v => v.category).sum ≤ 8)
    (hM : mFun C.2.1 y cy mL rt dy (vR (ma 0) :: [a1, a2, a3, a4, a5]) (zg C) ma M P) (kk : ∀ r, rng r → P r → ZP C nL (mF ma h0 M) k n L pc' (vI r :: st)) : ZP C nL (mF ma h0 M) k n L pc (a5 :: a4 :: a3 :: a2 :: a1 :: vR (ma 0) :: st) :=
  z_V_fun X [a1, a2, a3, a4, a5] hcls Y hq hd hn hdd hk hm rfl rfl hcat hM kk
theorem z_V_int5 (X : zX C cc own nL ret d mc ms post) {y : MethodName} {cy : ByteArray} {mL idx dy : Nat} {rt : Option FieldType} {a1 a2 a3 a4 a5 : Value} {P : Int → MM → Prop} (hcls : y.cls = RX8) (Y : zYV y cy mL rt 5) (hq : Cond.methodLink own idx y ∈ lw_all) (hd : decode cc pc = .ok (.invokevirtual idx, 3)) (hn : pc + 3 = pc') (hdd : dy + 1 ≤ d) (hk : k ≤ mc) (hm : n ≤ ms) (hcat : (st.map fun v => v.category).sum ≤ 8)
    (hM : mInt C.2.1 y cy mL rt dy (vR (ma 0) :: [a1, a2, a3, a4, a5]) (zg C) ma M P) (kk : ∀ r M', rng r → P r M' → mR M' → ZP C nL (mF ma h0 M') k n L pc' (vI r :: st)) : ZP C nL (mF ma h0 M) k n L pc (a5 :: a4 :: a3 :: a2 :: a1 :: vR (ma 0) :: st) :=
  z_V_int X [a1, a2, a3, a4, a5] hcls Y hq hd hn hdd hk hm rfl rfl hcat hM kk
theorem z_V_void5 (X : zX C cc own nL ret d mc ms post) {y : MethodName} {cy : ByteArray} {mL idx dy : Nat} {a1 a2 a3 a4 a5 : Value} {P : MM → Prop} (hcls : y.cls = RX8) (Y : zYV y cy mL none 5) (hq : Cond.methodLink own idx y ∈ lw_all) (hd : decode cc pc = .ok (.invokevirtual idx, 3)) (hn : pc + 3 = pc') (hdd : dy + 1 ≤ d) (hk : k ≤ mc) (hm : n ≤ ms) (hcat : (st.map fun v => v.category).sum ≤ 8)
    (hM : mVoid C.2.1 y cy mL dy (vR (ma 0) :: [a1, a2, a3, a4, a5]) (zg C) ma M P) (kk : ∀ M', P M' → mR M' → ZP C nL (mF ma h0 M') k n L pc' st) : ZP C nL (mF ma h0 M) k n L pc (a5 :: a4 :: a3 :: a2 :: a1 :: vR (ma 0) :: st) :=
  z_V_void X [a1, a2, a3, a4, a5] hcls Y hq hd hn hdd hk hm rfl rfl hcat hM kk
theorem z_S_void4 (X : zX C cc own nL ret d mc ms post) {y : MethodName} {cy : ByteArray} {mL idx dy : Nat} {a1 a2 a3 a4 : Value} {P : MM → Prop} (Y : zYS y cy mL none 4) (hq : Cond.methodLink own idx y ∈ lw_all) (hd : decode cc pc = .ok (.invokestatic idx, 3)) (hn : pc + 3 = pc') (hdd : dy + 1 ≤ d) (hk : k ≤ mc) (hm : n ≤ ms) (hcat : (st.map fun v => v.category).sum ≤ 8)
    (hM : mVoid C.2.1 y cy mL dy [a1, a2, a3, a4] (zg C) ma M P) (kk : ∀ M', P M' → mR M' → ZP C nL (mF ma h0 M') k n L pc' st) : ZP C nL (mF ma h0 M) k n L pc (a4 :: a3 :: a2 :: a1 :: st) := by
  refine z_callS X (vs := [a1, a2, a3, a4]) Y hq hd hn hdd hk hm rfl rfl hcat fun h hh => (hM h hh.1).imp fun v h' hp => ?_
  obtain ⟨M', hF, rfl, hp⟩ := hp
  exact ZP.imp (fun x hx => by subst hx; exact ⟨hF.1, hh.2.tr hF.2⟩) (kk M' hp hF.1.2.2.2)
end ZMODEL
