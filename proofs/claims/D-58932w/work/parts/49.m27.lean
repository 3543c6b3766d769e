/-! THE MODEL: it is made -/
section M27
/-- a model half made: its arrays so far, its fields -/
def cI (h0 : GH) (q0 : Nat) (qs : List Nat) (fs : List Value) (h : GH) : Prop := h q0 = some (zO 6 fs) ∧ (∀ (r q : Nat), qs[r]? = some q → h q = some (zAi 10 (msz (r + 1)) fun _ => 0)) ∧ (q0 :: qs).Nodup ∧ ∀ q, q ∉ q0 :: qs → h q = h0 q
theorem cI.mem {h0 h : GH} {q0 q : Nat} {qs : List Nat} {fs : List Value} (hc : cI h0 q0 qs fs h) (hq : h q = none) : q ∉ q0 :: qs := fun hm => by
  rcases List.mem_cons.mp hm with e | e
  · rw [e, hc.1] at hq; cases hq
  · obtain ⟨r, hr⟩ := List.getElem?_of_mem e
    rw [hc.2.1 r q hr] at hq
    cases hq
theorem cI.new {h0 h : GH} {q0 q N : Nat} {qs : List Nat} {fs : List Value} (hc : cI h0 q0 qs fs h) (hq : h q = none) (hN : msz (qs.length + 1) = N) : cI h0 q0 (qs ++ [q]) fs (hset h q (zAi 10 N fun _ => 0)) := by
  have hm := hc.mem hq
  obtain ⟨h1, h2, h3, h4⟩ := hc
  have hne : q0 ≠ q := fun e => hm (by rw [e]; exact List.mem_cons_self)
  refine ⟨by rw [hset_n hne]; exact h1, fun r x hr => ?_, ?_, fun x hx => ?_⟩
  · by_cases hl : r < qs.length
    · rw [List.getElem?_append_left hl] at hr
      rw [hset_n (fun e => hm (by rw [← e]; exact List.mem_cons_of_mem _ (List.mem_of_getElem? hr)))]
      exact h2 r x hr
    · rw [List.getElem?_append_right (by omega)] at hr
      obtain rfl : r = qs.length := by
        have := (List.getElem?_eq_some_iff.mp hr).1
        simp only [List.length_cons, List.length_nil] at this
        omega
      rw [Nat.sub_self] at hr
      cases hr
      rw [hset_s, hN]
  · show (q0 :: (qs ++ [q])).Nodup
    rw [← List.cons_append]
    exact List.nodup_append.mpr ⟨h3, List.nodup_cons.mpr ⟨List.not_mem_nil, List.nodup_nil⟩, fun a ha b hb e => hm (by rw [← List.mem_singleton.mp hb, ← e]; exact ha)⟩
  · have hx1 : x ≠ q := fun e => hx (by rw [e]; exact List.mem_cons_of_mem _ (List.mem_append_right _ List.mem_cons_self))
    rw [hset_n hx1]
    exact h4 x (fun e => hx (by rcases List.mem_cons.mp e with e | e; · rw [e]; exact List.mem_cons_self
                                · exact List.mem_cons_of_mem _ (List.mem_append_left _ e)))
theorem cI.put {h0 h : GH} {q0 : Nat} {qs : List Nat} {fs fs' : List Value} (hc : cI h0 q0 qs fs h) : cI h0 q0 qs fs' (hset h q0 (zO 6 fs')) := by
  obtain ⟨h1, h2, h3, h4⟩ := hc
  have hn := (List.nodup_cons.mp h3).1
  refine ⟨hset_s, fun r x hr => ?_, h3, fun x hx => ?_⟩
  · rw [hset_n (fun e => hn (by rw [← e]; exact List.mem_of_getElem? hr))]
    exact h2 r x hr
  · rw [hset_n (fun e => hx (by rw [e]; exact List.mem_cons_self))]
    exact h4 x hx
def mZr : MM := fun _ _ => 0
theorem cI.fin {h0 h : GH} {q0 q1 q2 q3 q4 q5 q6 q7 q8 q9 : Nat} (hc : cI h0 q0 [q1, q2, q3, q4, q5, q6, q7, q8, q9] [vR q1, vR q2, vI 0, vR q3, vI 0, vR q4, vR q5, vR q6, vR q7, vI 0, vI 0, vI 0, vI 0, vR q8, vI 0, vR q9] h) : mF (fun r => [q0, q1, q2, q3, q4, q5, q6, q7, q8, q9].getD r 0) h0 mZr h := by
  obtain ⟨h1, h2, h3, h4⟩ := hc
  refine ⟨⟨h1, fun r a b => ?_, fun i j hi hj e => ?_, fun _ _ => by unfold mZr; decide⟩, fun q hq => h4 q fun hm => ?_⟩
  · obtain ⟨r, rfl⟩ : ∃ k, r = k + 1 := ⟨r - 1, by omega⟩
    refine h2 r _ ?_
    have hr : r < [q1, q2, q3, q4, q5, q6, q7, q8, q9].length := by show r < 9; omega
    show _ = some ([q1, q2, q3, q4, q5, q6, q7, q8, q9].getD r 0)
    rw [List.getD_eq_getElem?_getD, List.getElem?_eq_getElem hr]
    rfl
  · have hi' : i < [q0, q1, q2, q3, q4, q5, q6, q7, q8, q9].length := hi
    have hj' : j < [q0, q1, q2, q3, q4, q5, q6, q7, q8, q9].length := hj
    have e : [q0, q1, q2, q3, q4, q5, q6, q7, q8, q9].getD i 0 = [q0, q1, q2, q3, q4, q5, q6, q7, q8, q9].getD j 0 := e
    rw [List.getD_eq_getElem?_getD, List.getD_eq_getElem?_getD, List.getElem?_eq_getElem hi', List.getElem?_eq_getElem hj'] at e
    exact (List.getElem_inj h3).mp (Option.some.inj (congrArg some e))
  · obtain ⟨r, hr⟩ := List.getElem?_of_mem hm
    have hl := (List.getElem?_eq_some_iff.mp hr).1
    refine hq r hl ?_
    show q = [q0, q1, q2, q3, q4, q5, q6, q7, q8, q9].getD r 0
    rw [List.getD_eq_getElem?_getD, hr]
    rfl
/-- the numbers at the beginning -/
def f0 (j : Int) : Int := if j = 1 then 500 else if j = 3 then 60 else if j = 8 then 1 else if 13 ≤ j ∧ j < 21 ∧ (j - 13) % 2 = 1 then -1 else if 126 ≤ j ∧ j < 141 ∧ (j - 126) % 3 = 0 then (j - 126) / 3 else 0
def begA : Ab := ((f0, [], [], []), none, [], [])
variable {C : ZC} {cc : ByteArray} {own : String} {nL : Nat} {ret : Option FieldType} {d mc ms : Nat} {post : Option Value → GH → Prop} {Φ : GH → Prop} {k n : Nat} {L : List (Option Value)} {pc pc' : Nat}
/-- a constructor's call of Object's -/
theorem z_objInit (X : zX C cc own nL ret d mc ms post) {idx q : Nat} (hq : Cond.methodLink own idx objectInit ∈ lw_all) (hd : decode cc pc = .ok (.invokespecial idx, 3)) (hn : pc + 3 = pc') (hdd : 1 ≤ d) (kk : ZP C nL Φ k n L pc' []) : ZP C nL Φ k n L pc [vR q] := by
  obtain ⟨p, l, e, R, s, m, args, below, meth, c, g, Q⟩ := C
  obtain ⟨hx, hb, hml, hown, hts, hret, hlk, hK, hR, hQ⟩ := X
  subst hn
  have hR' : R = zrm d mc ms := hR
  subst hR'
  intro h H locs cells slots ls h1 h2 h3 h4 h5 h6
  exact W.objInit hx hb hown (hts _ hq) (hts _ q160) (hts _ q161) rfl (by rw [hml]; exact h6.1) rfl hd hdd (by show 2 * 0 + 0 + 12 ≤ 40 * d; omega) (kk h H locs cells slots ls h1 h2 h3 h4 h5 h6)
set_option maxRecDepth 100000 in
theorem c_X8_init (l : Launch) (g : zG) (h : GH) (q0 : Nat) (hq : h q0 = some (zO 6 [Value.null, Value.null, vI 0, Value.null, vI 0, Value.null, Value.null, Value.null, Value.null, vI 0, vI 0, vI 0, vI 0, Value.null, vI 0, Value.null])) : zMet l yX8_init cX8_init 2 none 3 9 2864 [vR q0] g h (fun v h' => v = none ∧ ∃ ma M, ma 0 = q0 ∧ mF ma h M h' ∧ mRep M begA) := by
  refine zMet.mk (L0 := [some (vR q0), none]) (by decide) rfl (Nat.le_of_ble_eq_true rfl) rfl fun C hg hl hnm X => ?_
  subst hg hl
  refine ZP.imp (Φ' := cI h q0 [] [Value.null, Value.null, vI 0, Value.null, vI 0, Value.null, Value.null, Value.null, Value.null, vI 0, vI 0, vI 0, vI 0, Value.null, vI 0, Value.null]) (fun x hx => by subst hx; exact ⟨hq, fun _ _ e => (nomatch e), List.nodup_cons.mpr ⟨List.not_mem_nil, List.nodup_nil⟩, fun _ _ => rfl⟩) ?_
  refine z_aload_n (pc' := 1) X dX8_init_0 rfl rfl ?_
  refine z_objInit (pc' := 4) X q2062 dX8_init_1 rfl (by decide) ?_
  refine z_aload_n (pc' := 5) X dX8_init_4 rfl rfl ?_
  refine z_sipush (pc' := 8) X dX8_init_5 rfl (by decide) ?_
  refine z_newi (pc' := 10) X (N := 321) (by decide) dX8_init_8 rfl (Nat.le_of_ble_eq_true rfl) (Nat.le_of_ble_eq_true rfl) (fun q1 => ?_)
  refine ZP.imp (Φ' := cI h q0 [q1] [Value.null, Value.null, vI 0, Value.null, vI 0, Value.null, Value.null, Value.null, Value.null, vI 0, vI 0, vI 0, vI 0, Value.null, vI 0, Value.null]) (fun x hx => by obtain ⟨y, h1, h2, h3⟩ := hx; subst h3; exact h1.new h2 rfl) ?_
  refine z_putF (pc' := 13) (kf := 0) (Φ' := cI h q0 [q1] [vR q1, Value.null, vI 0, Value.null, vI 0, Value.null, Value.null, Value.null, Value.null, vI 0, vI 0, vI 0, vI 0, Value.null, vI 0, Value.null]) X hnm in_X8 tyX8 tyX8_ok nmX8 rfl (by decide) q2063 (Or.inl rfl) rfl rfl rfl rfl (by show 0 < 16; decide) (fun _ hx => hx.1) (fun _ hx => hx.put) dX8_init_10 rfl ?_
  refine z_aload_n (pc' := 14) X dX8_init_13 rfl rfl ?_
  refine z_sipush (pc' := 17) X dX8_init_14 rfl (by decide) ?_
  refine z_newi (pc' := 19) X (N := 1605) (by decide) dX8_init_17 rfl (Nat.le_of_ble_eq_true rfl) (Nat.le_of_ble_eq_true rfl) (fun q2 => ?_)
  refine ZP.imp (Φ' := cI h q0 [q1, q2] [vR q1, Value.null, vI 0, Value.null, vI 0, Value.null, Value.null, Value.null, Value.null, vI 0, vI 0, vI 0, vI 0, Value.null, vI 0, Value.null]) (fun x hx => by obtain ⟨y, h1, h2, h3⟩ := hx; subst h3; exact h1.new h2 rfl) ?_
  refine z_putF (pc' := 22) (kf := 1) (Φ' := cI h q0 [q1, q2] [vR q1, vR q2, vI 0, Value.null, vI 0, Value.null, Value.null, Value.null, Value.null, vI 0, vI 0, vI 0, vI 0, Value.null, vI 0, Value.null]) X hnm in_X8 tyX8 tyX8_ok nmX8 rfl (by decide) q2064 (Or.inl rfl) rfl rfl rfl rfl (by show 1 < 16; decide) (fun _ hx => hx.1) (fun _ hx => hx.put) dX8_init_19 rfl ?_
  refine z_aload_n (pc' := 23) X dX8_init_22 rfl rfl ?_
  refine z_sipush (pc' := 26) X dX8_init_23 rfl (by decide) ?_
  refine z_newi (pc' := 28) X (N := 321) (by decide) dX8_init_26 rfl (Nat.le_of_ble_eq_true rfl) (Nat.le_of_ble_eq_true rfl) (fun q3 => ?_)
  refine ZP.imp (Φ' := cI h q0 [q1, q2, q3] [vR q1, vR q2, vI 0, Value.null, vI 0, Value.null, Value.null, Value.null, Value.null, vI 0, vI 0, vI 0, vI 0, Value.null, vI 0, Value.null]) (fun x hx => by obtain ⟨y, h1, h2, h3⟩ := hx; subst h3; exact h1.new h2 rfl) ?_
  refine z_putF (pc' := 31) (kf := 3) (Φ' := cI h q0 [q1, q2, q3] [vR q1, vR q2, vI 0, vR q3, vI 0, Value.null, Value.null, Value.null, Value.null, vI 0, vI 0, vI 0, vI 0, Value.null, vI 0, Value.null]) X hnm in_X8 tyX8 tyX8_ok nmX8 rfl (by decide) q2066 (Or.inl rfl) rfl rfl rfl rfl (by show 3 < 16; decide) (fun _ hx => hx.1) (fun _ hx => hx.put) dX8_init_28 rfl ?_
  refine z_aload_n (pc' := 32) X dX8_init_31 rfl rfl ?_
  refine z_sipush (pc' := 35) X dX8_init_32 rfl (by decide) ?_
  refine z_newi (pc' := 37) X (N := 321) (by decide) dX8_init_35 rfl (Nat.le_of_ble_eq_true rfl) (Nat.le_of_ble_eq_true rfl) (fun q4 => ?_)
  refine ZP.imp (Φ' := cI h q0 [q1, q2, q3, q4] [vR q1, vR q2, vI 0, vR q3, vI 0, Value.null, Value.null, Value.null, Value.null, vI 0, vI 0, vI 0, vI 0, Value.null, vI 0, Value.null]) (fun x hx => by obtain ⟨y, h1, h2, h3⟩ := hx; subst h3; exact h1.new h2 rfl) ?_
  refine z_putF (pc' := 40) (kf := 5) (Φ' := cI h q0 [q1, q2, q3, q4] [vR q1, vR q2, vI 0, vR q3, vI 0, vR q4, Value.null, Value.null, Value.null, vI 0, vI 0, vI 0, vI 0, Value.null, vI 0, Value.null]) X hnm in_X8 tyX8 tyX8_ok nmX8 rfl (by decide) q2068 (Or.inl rfl) rfl rfl rfl rfl (by show 5 < 16; decide) (fun _ hx => hx.1) (fun _ hx => hx.put) dX8_init_37 rfl ?_
  refine z_aload_n (pc' := 41) X dX8_init_40 rfl rfl ?_
  refine z_iconst (pc' := 42) X dX8_init_41 rfl ?_
  refine z_newi (pc' := 44) X (N := 4) (by decide) dX8_init_42 rfl (Nat.le_of_ble_eq_true rfl) (Nat.le_of_ble_eq_true rfl) (fun q5 => ?_)
  refine ZP.imp (Φ' := cI h q0 [q1, q2, q3, q4, q5] [vR q1, vR q2, vI 0, vR q3, vI 0, vR q4, Value.null, Value.null, Value.null, vI 0, vI 0, vI 0, vI 0, Value.null, vI 0, Value.null]) (fun x hx => by obtain ⟨y, h1, h2, h3⟩ := hx; subst h3; exact h1.new h2 rfl) ?_
  refine z_putF (pc' := 47) (kf := 6) (Φ' := cI h q0 [q1, q2, q3, q4, q5] [vR q1, vR q2, vI 0, vR q3, vI 0, vR q4, vR q5, Value.null, Value.null, vI 0, vI 0, vI 0, vI 0, Value.null, vI 0, Value.null]) X hnm in_X8 tyX8 tyX8_ok nmX8 rfl (by decide) q2069 (Or.inl rfl) rfl rfl rfl rfl (by show 6 < 16; decide) (fun _ hx => hx.1) (fun _ hx => hx.put) dX8_init_44 rfl ?_
  refine z_aload_n (pc' := 48) X dX8_init_47 rfl rfl ?_
  refine z_bipush (pc' := 50) X dX8_init_48 rfl (by decide) ?_
  refine z_newi (pc' := 52) X (N := 26) (by decide) dX8_init_50 rfl (Nat.le_of_ble_eq_true rfl) (Nat.le_of_ble_eq_true rfl) (fun q6 => ?_)
  refine ZP.imp (Φ' := cI h q0 [q1, q2, q3, q4, q5, q6] [vR q1, vR q2, vI 0, vR q3, vI 0, vR q4, vR q5, Value.null, Value.null, vI 0, vI 0, vI 0, vI 0, Value.null, vI 0, Value.null]) (fun x hx => by obtain ⟨y, h1, h2, h3⟩ := hx; subst h3; exact h1.new h2 rfl) ?_
  refine z_putF (pc' := 55) (kf := 7) (Φ' := cI h q0 [q1, q2, q3, q4, q5, q6] [vR q1, vR q2, vI 0, vR q3, vI 0, vR q4, vR q5, vR q6, Value.null, vI 0, vI 0, vI 0, vI 0, Value.null, vI 0, Value.null]) X hnm in_X8 tyX8 tyX8_ok nmX8 rfl (by decide) q2070 (Or.inl rfl) rfl rfl rfl rfl (by show 7 < 16; decide) (fun _ hx => hx.1) (fun _ hx => hx.put) dX8_init_52 rfl ?_
  refine z_aload_n (pc' := 56) X dX8_init_55 rfl rfl ?_
  refine z_bipush (pc' := 58) X dX8_init_56 rfl (by decide) ?_
  refine z_newi (pc' := 60) X (N := 60) (by decide) dX8_init_58 rfl (Nat.le_of_ble_eq_true rfl) (Nat.le_of_ble_eq_true rfl) (fun q7 => ?_)
  refine ZP.imp (Φ' := cI h q0 [q1, q2, q3, q4, q5, q6, q7] [vR q1, vR q2, vI 0, vR q3, vI 0, vR q4, vR q5, vR q6, Value.null, vI 0, vI 0, vI 0, vI 0, Value.null, vI 0, Value.null]) (fun x hx => by obtain ⟨y, h1, h2, h3⟩ := hx; subst h3; exact h1.new h2 rfl) ?_
  refine z_putF (pc' := 63) (kf := 8) (Φ' := cI h q0 [q1, q2, q3, q4, q5, q6, q7] [vR q1, vR q2, vI 0, vR q3, vI 0, vR q4, vR q5, vR q6, vR q7, vI 0, vI 0, vI 0, vI 0, Value.null, vI 0, Value.null]) X hnm in_X8 tyX8 tyX8_ok nmX8 rfl (by decide) q2071 (Or.inl rfl) rfl rfl rfl rfl (by show 8 < 16; decide) (fun _ hx => hx.1) (fun _ hx => hx.put) dX8_init_60 rfl ?_
  refine z_aload_n (pc' := 64) X dX8_init_63 rfl rfl ?_
  refine z_sipush (pc' := 67) X dX8_init_64 rfl (by decide) ?_
  refine z_newi (pc' := 69) X (N := 186) (by decide) dX8_init_67 rfl (Nat.le_of_ble_eq_true rfl) (Nat.le_of_ble_eq_true rfl) (fun q8 => ?_)
  refine ZP.imp (Φ' := cI h q0 [q1, q2, q3, q4, q5, q6, q7, q8] [vR q1, vR q2, vI 0, vR q3, vI 0, vR q4, vR q5, vR q6, vR q7, vI 0, vI 0, vI 0, vI 0, Value.null, vI 0, Value.null]) (fun x hx => by obtain ⟨y, h1, h2, h3⟩ := hx; subst h3; exact h1.new h2 rfl) ?_
  refine z_putF (pc' := 72) (kf := 13) (Φ' := cI h q0 [q1, q2, q3, q4, q5, q6, q7, q8] [vR q1, vR q2, vI 0, vR q3, vI 0, vR q4, vR q5, vR q6, vR q7, vI 0, vI 0, vI 0, vI 0, vR q8, vI 0, Value.null]) X hnm in_X8 tyX8 tyX8_ok nmX8 rfl (by decide) q2076 (Or.inl rfl) rfl rfl rfl rfl (by show 13 < 16; decide) (fun _ hx => hx.1) (fun _ hx => hx.put) dX8_init_69 rfl ?_
  refine z_aload_n (pc' := 73) X dX8_init_72 rfl rfl ?_
  refine z_bipush (pc' := 75) X dX8_init_73 rfl (by decide) ?_
  refine z_newi (pc' := 77) X (N := 20) (by decide) dX8_init_75 rfl (Nat.le_of_ble_eq_true rfl) (Nat.le_of_ble_eq_true rfl) (fun q9 => ?_)
  refine ZP.imp (Φ' := cI h q0 [q1, q2, q3, q4, q5, q6, q7, q8, q9] [vR q1, vR q2, vI 0, vR q3, vI 0, vR q4, vR q5, vR q6, vR q7, vI 0, vI 0, vI 0, vI 0, vR q8, vI 0, Value.null]) (fun x hx => by obtain ⟨y, h1, h2, h3⟩ := hx; subst h3; exact h1.new h2 rfl) ?_
  refine z_putF (pc' := 80) (kf := 15) (Φ' := cI h q0 [q1, q2, q3, q4, q5, q6, q7, q8, q9] [vR q1, vR q2, vI 0, vR q3, vI 0, vR q4, vR q5, vR q6, vR q7, vI 0, vI 0, vI 0, vI 0, vR q8, vI 0, vR q9]) X hnm in_X8 tyX8 tyX8_ok nmX8 rfl (by decide) q2078 (Or.inl rfl) rfl rfl rfl rfl (by show 15 < 16; decide) (fun _ hx => hx.1) (fun _ hx => hx.put) dX8_init_77 rfl ?_
  obtain ⟨ma, hma⟩ : ∃ ma : Nat → Nat, ma = fun r => [q0, q1, q2, q3, q4, q5, q6, q7, q8, q9].getD r 0 := ⟨_, rfl⟩
  have hm0 : ma 0 = q0 := by rw [hma]; rfl
  refine ZP.imp (Φ' := mF ma h mZr) (fun x hx => by rw [hma]; exact hx.fin) ?_
  refine ZP.fact (P := mR mZr) (fun _ h => h.1.2.2.2) (fun hR => ?_)
  clear hma
  subst hm0
  refine z_aload_n (pc' := 81) X dX8_init_80 rfl rfl ?_
  refine z_mget (pc' := 84) X 0 rfl (by decide) q2063 rfl dX8_init_81 rfl ?_
  refine z_iconst (pc' := 85) X dX8_init_84 rfl ?_
  refine z_sipush (pc' := 88) X dX8_init_85 rfl (by decide) ?_
  refine z_mst (pc' := 89) X (r := 1) (by decide) (show 0 ≤ _ ∧ _ < (321 : Int) by omega) (by first | assumption | omega) dX8_init_88 rfl (fun hR88 => ?_)
  refine z_aload_n (pc' := 90) X dX8_init_89 rfl rfl ?_
  refine z_mget (pc' := 93) X 0 rfl (by decide) q2063 rfl dX8_init_90 rfl ?_
  refine z_iconst (pc' := 94) X dX8_init_93 rfl ?_
  refine z_bipush (pc' := 96) X dX8_init_94 rfl (by decide) ?_
  refine z_mst (pc' := 97) X (r := 1) (by decide) (show 0 ≤ _ ∧ _ < (321 : Int) by omega) (by first | assumption | omega) dX8_init_96 rfl (fun hR96 => ?_)
  refine z_aload_n (pc' := 98) X dX8_init_97 rfl rfl ?_
  refine z_mget (pc' := 101) X 0 rfl (by decide) q2063 rfl dX8_init_98 rfl ?_
  refine z_bipush (pc' := 103) X dX8_init_101 rfl (by decide) ?_
  refine z_iconst (pc' := 104) X dX8_init_103 rfl ?_
  refine z_mst (pc' := 105) X (r := 1) (by decide) (show 0 ≤ _ ∧ _ < (321 : Int) by omega) (by first | assumption | omega) dX8_init_104 rfl (fun hR104 => ?_)
  refine z_iconst (pc' := 106) X dX8_init_105 rfl ?_
  refine z_istore_n (pc' := 107) X dX8_init_106 rfl (by decide) rfl ?_
  dsimp only [List.set]
  have loop107 : ∀ (N : Nat) (k : Int) (Mx : MM), (0 ≤ k ∧ k ≤ 4) → (∀ j, (∀ c, 0 ≤ c → c < k → j ≠ 13 + 2 * c + 1) → Mx 1 j = (mset (mset (mset mZr 1 1 500) 1 3 60) 1 8 1) 1 j) → (∀ c, 0 ≤ c → c < k → Mx 1 (13 + 2 * c + 1) = -1) → (∀ q, q ≠ 1 → Mx q = mZr q) → (4 - k).toNat < N → ZP C 2 (mF ma h (Mx)) 9 2864 [some (vR (ma 0)), some (vI k)] 107 [] := by
    intro N
    induction N with
    | zero => intro k Mx hk hA hB hC hN; exact absurd hN (Nat.not_lt_zero _)
    | succ N ih107 =>
      intro k Mx hk hA hB hC hN
      refine ZP.fact (P := mR (Mx)) (fun _ h => h.1.2.2.2) (fun hR107 => ?_)
      refine z_iload_n (pc' := 108) X dX8_init_107 rfl rfl ?_
      refine z_iconst (pc' := 109) X dX8_init_108 rfl ?_
      refine z_icmp_ge (tgt := 132) (pc' := 112) X (by first | assumption | omega) (by first | assumption | omega) dX8_init_109 rfl (by decide) (fun c109 => ?_) (fun c109 => ?_)
      · refine z_iconst (pc' := 133) X dX8_init_132 rfl ?_
        refine z_istore_n (pc' := 134) X dX8_init_133 rfl (by decide) rfl ?_
        dsimp only [List.set]
        have loop134 : ∀ (N : Nat) (k : Int) (My : MM), (0 ≤ k ∧ k ≤ 5) → (∀ j, (∀ c, 0 ≤ c → c < k → j ≠ 126 + 3 * c) → My 1 j = Mx 1 j) → (∀ c, 0 ≤ c → c < k → My 1 (126 + 3 * c) = c) → (∀ q, q ≠ 1 → My q = mZr q) → (5 - k).toNat < N → ZP C 2 (mF ma h (My)) 9 2864 [some (vR (ma 0)), some (vI k)] 134 [] := by
          intro N
          induction N with
          | zero => intro k My hk2 hA2 hB2 hC2 hN; exact absurd hN (Nat.not_lt_zero _)
          | succ N ih134 =>
            intro k My hk2 hA2 hB2 hC2 hN
            refine ZP.fact (P := mR (My)) (fun _ h => h.1.2.2.2) (fun hR134 => ?_)
            refine z_iload_n (pc' := 135) X dX8_init_134 rfl rfl ?_
            refine z_iconst (pc' := 136) X dX8_init_135 rfl ?_
            refine z_icmp_ge (tgt := 157) (pc' := 139) X (by first | assumption | omega) (by first | assumption | omega) dX8_init_136 rfl (by decide) (fun c136 => ?_) (fun c136 => ?_)
            refine z_return X dX8_init_157 (Nat.le_refl _) (Nat.le_refl _) (fun _ hh => ⟨rfl, ma, My, rfl, hh, ⟨⟨fun j hj => ?_, ⟨(hA2 4 (fun c a b => by omega)).trans (hA 4 (fun c a b => by omega)), by decide, fun i b e => (nomatch e)⟩, ⟨(hA2 5 (fun c a b => by omega)).trans (hA 5 (fun c a b => by omega)), by decide, fun i b e => (nomatch e)⟩, ⟨(hA2 6 (fun c a b => by omega)).trans (hA 6 (fun c a b => by omega)), by decide, fun i b e => (nomatch e)⟩⟩, Or.inl ⟨by rw [hC2 0 (by decide)]; rfl, rfl⟩, ⟨by rw [hC2 0 (by decide)]; rfl, by decide, fun i b e => (nomatch e)⟩, ⟨by rw [hC2 0 (by decide)]; rfl, by decide, fun i b e => (nomatch e)⟩⟩⟩)
            show My 1 j = f0 j
            unfold f0
            by_cases h1 : 126 ≤ j ∧ j < 141 ∧ (j - 126) % 3 = 0
            · have e := hB2 ((j - 126) / 3) (by omega) (by omega)
              rw [show 126 + 3 * ((j - 126) / 3) = j by omega] at e
              rw [e, if_neg (by omega), if_neg (by omega), if_neg (by omega), if_neg (by omega), if_pos h1]
            rw [hA2 j (fun c a b => by omega)]
            by_cases h2 : 13 ≤ j ∧ j < 21 ∧ (j - 13) % 2 = 1
            · have e := hB ((j - 13) / 2) (by omega) (by omega)
              rw [show 13 + 2 * ((j - 13) / 2) + 1 = j by omega] at e
              rw [e, if_neg (by omega), if_neg (by omega), if_neg (by omega), if_pos h2]
            rw [hA j (fun c a b => by omega), if_neg h2, if_neg h1]
            by_cases h3 : j = 8
            · subst h3; rfl
            by_cases h4 : j = 3
            · subst h4; rfl
            by_cases h5 : j = 1
            · subst h5; rfl
            rw [if_neg h5, if_neg h4, if_neg h3, mset_k h3, mset_k h4, mset_k h5]
            rfl
            · refine z_aload_n (pc' := 140) X dX8_init_139 rfl rfl ?_
              refine z_mget (pc' := 143) X 0 rfl (by decide) q2063 rfl dX8_init_140 rfl ?_
              refine z_bipush (pc' := 145) X dX8_init_143 rfl (by decide) ?_
              refine z_iconst (pc' := 146) X dX8_init_145 rfl ?_
              refine z_iload_n (pc' := 147) X dX8_init_146 rfl rfl ?_
              refine z_imul (pc' := 148) X dX8_init_147 rfl ?_
              refine z_iadd (pc' := 149) X dX8_init_148 rfl ?_
              refine z_iload_n (pc' := 150) X dX8_init_149 rfl rfl ?_
              refine z_mst (pc' := 151) X (r := 1) (by decide) (show 0 ≤ _ ∧ _ < (321 : Int) by omega) (by first | assumption | omega) dX8_init_150 rfl (fun hR150 => ?_)
              refine z_iinc (pc' := 154) X dX8_init_151 rfl (by decide) rfl rfl ?_
              dsimp only [List.set]
              refine z_goto (tgt := 134) X dX8_init_154 (by decide) ?_
              refine ZP.wk (L' := [some (vR (ma 0)), some (vI _)]) (And.intro rfl (And.intro rfl (trivial))) ?_
              exact ih134 _ _ (by omega) (by exact fun j hj => by rw [mset_k (hj k hk2.1 (by omega))]; exact hA2 j (fun c a b => hj c a (by omega))) (by exact fun c a b => (Classical.em (c = k)).elim (fun e => by subst e; exact mset_s) (fun e => by rw [mset_k (by omega)]; exact hB2 c a (by omega))) (by exact fun q hq => by rw [mset_r hq]; exact hC2 q hq) (by omega)
        refine ZP.wk (L' := [some (vR (ma 0)), some (vI _)]) (And.intro rfl (And.intro rfl (trivial))) ?_
        exact loop134 _ _ _ (by decide) (by exact fun j _ => rfl) (by exact fun c a b => absurd b (by omega)) (by exact hC) (Nat.lt_succ_self _)
      · refine z_aload_n (pc' := 113) X dX8_init_112 rfl rfl ?_
        refine z_mget (pc' := 116) X 0 rfl (by decide) q2063 rfl dX8_init_113 rfl ?_
        refine z_bipush (pc' := 118) X dX8_init_116 rfl (by decide) ?_
        refine z_iconst (pc' := 119) X dX8_init_118 rfl ?_
        refine z_iload_n (pc' := 120) X dX8_init_119 rfl rfl ?_
        refine z_imul (pc' := 121) X dX8_init_120 rfl ?_
        refine z_iadd (pc' := 122) X dX8_init_121 rfl ?_
        refine z_iconst (pc' := 123) X dX8_init_122 rfl ?_
        refine z_iadd (pc' := 124) X dX8_init_123 rfl ?_
        refine z_iconst (pc' := 125) X dX8_init_124 rfl ?_
        refine z_mst (pc' := 126) X (r := 1) (by decide) (show 0 ≤ _ ∧ _ < (321 : Int) by omega) (by first | assumption | omega) dX8_init_125 rfl (fun hR125 => ?_)
        refine z_iinc (pc' := 129) X dX8_init_126 rfl (by decide) rfl rfl ?_
        dsimp only [List.set]
        refine z_goto (tgt := 107) X dX8_init_129 (by decide) ?_
        refine ZP.wk (L' := [some (vR (ma 0)), some (vI _)]) (And.intro rfl (And.intro rfl (trivial))) ?_
        exact ih107 _ _ (by omega) (by exact fun j hj => by rw [mset_k (hj k hk.1 (by omega))]; exact hA j (fun c a b => hj c a (by omega))) (by exact fun c a b => (Classical.em (c = k)).elim (fun e => by subst e; exact mset_s) (fun e => by rw [mset_k (by omega)]; exact hB c a (by omega))) (by exact fun q hq => by rw [mset_r hq]; exact hC q hq) (by omega)
  refine ZP.wk (L' := [some (vR (ma 0)), some (vI _)]) (And.intro rfl (And.intro rfl (trivial))) ?_
  exact loop107 _ _ _ (by decide) (by exact fun j _ => rfl) (by exact fun c a b => absurd b (by omega)) (by exact fun q hq => by rw [mset_r hq, mset_r hq, mset_r hq]) (Nat.lt_succ_self _)
end M27
