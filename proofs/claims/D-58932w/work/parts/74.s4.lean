/-! THE STATE: heat, empty bales dropped, mould spread -/
section ZS4
def stE (e : zE) : Prop := (∃ ci fs, e = zO ci fs ∧ (1 ≤ ci ∧ ci ≤ 13 ∧ ci ≠ 6 ∧ ci ≠ 10)) ∨ ∃ n f, e = zAq 14 n f
theorem mutE_stE {e : zE} (h : mutE e) : stE e := by
  rcases h with ⟨ci, fs, a, b⟩ | h
  · exact Or.inl ⟨ci, fs, a, by omega⟩
  · exact Or.inr h
theorem stE_ai {t n : Nat} {f : Int → Int} : ¬ stE (zAi t n f) := by
  rintro (⟨ci, fs, h, -⟩ | ⟨n, f, h⟩)
  · have h : zAi _ _ _ = zO ci fs := h
    cases h
  · have h : zAi _ _ _ = zAq 14 n f := h
    cases h
theorem rX.nowr {b : Nat → Nat} {h0 h : GH} {F : Nat → Prop} {sh : Sh} {R : RS} {q : Nat} {e : zE} (a : rX b h0 F sh R h) (hq : h q = some e) (he : ¬ stE e) : ¬ fpS sh R q := fun hf => by
  obtain ⟨e', h1, h2⟩ := a.1.own hf
  rw [hq] at h1
  cases h1
  exact he (mutE_stE h2)
theorem rW.ki {b : Nat → Nat} {h h' : GH} {sh : Sh} {R : RS} (w : rW b h sh R) (hk : ∀ x e, h x = some e → stE e → h' x = some e) : rW b h' sh R := by
  obtain ⟨h1, h2, h3, h4, h5, h6, h7⟩ := w
  refine ⟨hk _ _ h1 (Or.inl ⟨_, _, rfl, by decide⟩), fun i hi => ?_, fun i hi q e hq => ?_, h4, h5, h6, h7.keep fun q ci fs hc he => hk q _ he (Or.inl ⟨_, _, rfl, by omega⟩)⟩
  · obtain ⟨⟨m, a1⟩, a2, a3⟩ := h2 i hi
    refine ⟨⟨m, hk _ _ a1 (Or.inl ⟨_, _, rfl, by decide⟩)⟩, a2, fun q hq => ?_⟩
    obtain ⟨cap, f, e1, e2⟩ := a3 q hq
    exact ⟨cap, f, hk _ _ e1 (Or.inr ⟨_, _, rfl⟩), e2⟩
  · have hx := h3 i hi q e hq
    obtain ⟨fs, ef⟩ := cellE_cls (b := b) (i := i) (e := e)
    rw [ef] at hx ⊢
    refine hk _ _ hx (Or.inl ⟨_, _, rfl, ?_⟩)
    unfold clsE
    split <;> decide
theorem rX.wr {b : Nat → Nat} {h0 h : GH} {F : Nat → Prop} {sh : Sh} {R : RS} {q : Nat} {e c : zE} (a : rX b h0 F sh R h) (hq : h q = some e) (he : ¬ stE e) (hf : F q ∨ h0 q = none) : rX b h0 F sh R (hset h q c) :=
  ⟨a.1.ki fun x e' hx hs => by
    have hne : x ≠ q := fun hh => by
      rw [hh, hq] at hx
      cases hx
      exact he hs
    rw [hset_n hne]
    exact hx, a.2.1.set hf, a.2.2⟩
theorem iup_up {f : Int → Int} {j a c : Int} : iup (iup f j a) j c = iup f j c := by
  funext x
  unfold iup
  split <;> rfl
theorem iup_self {f : Int → Int} {j : Int} : iup f j (f j) = f := by
  funext x
  unfold iup
  split
  · rename_i hx; rw [hx]
  · rfl
/-- the first k of T, the rest of L -/
def mpK {α : Type} (T L : List α) (k : Nat) : List α := T.take k ++ L.drop k
theorem mpK_len {α : Type} {T L : List α} {k : Nat} (h : T.length = L.length) : (mpK T L k).length = L.length := by
  unfold mpK
  rw [List.length_append, List.length_take, List.length_drop]
  omega
theorem mpK_at {α : Type} {T L : List α} {k : Int} (h : T.length = L.length) (hk : 0 ≤ k ∧ k ≤ (L.length : Int)) : (mpK T L k.toNat)[k.toNat]? = L[k.toNat]? := by
  unfold mpK
  rw [List.getElem?_append_right (by rw [List.length_take]; omega), List.length_take, List.getElem?_drop]
  congr 1
  omega
theorem mpK_set {α : Type} {T L : List α} {k : Int} {y : α} (h : T.length = L.length) (h0 : 0 ≤ k) (hy : T[k.toNat]? = some y) : (mpK T L k.toNat).set k.toNat y = mpK T L (k + 1).toNat := by
  have hl := (List.getElem?_eq_some_iff.mp hy).1
  have e1 : (k + 1).toNat = k.toNat + 1 := by omega
  rw [e1]
  refine List.ext_getElem? fun j => ?_
  unfold mpK
  rw [List.getElem?_set]
  by_cases hj : k.toNat = j
  · subst hj
    rw [if_pos rfl, if_pos (by rw [List.length_append, List.length_take, List.length_drop]; omega), List.getElem?_append_left (by rw [List.length_take]; omega), List.getElem?_take, if_pos (by omega), hy]
  · rw [if_neg hj]
    by_cases hlt : j < k.toNat
    · rw [List.getElem?_append_left (by rw [List.length_take]; omega), List.getElem?_append_left (by rw [List.length_take]; omega), List.getElem?_take, List.getElem?_take, if_pos hlt, if_pos (by omega)]
    · rw [List.getElem?_append_right (by rw [List.length_take]; omega), List.getElem?_append_right (by rw [List.length_take]; omega), List.length_take, List.length_take, List.getElem?_drop, List.getElem?_drop]
      congr 1
      omega
theorem mpK_same {α : Type} {T L : List α} {k : Int} {y : α} (h : T.length = L.length) (h0 : 0 ≤ k) (hy : T[k.toNat]? = some y) (hz : L[k.toNat]? = some y) : mpK T L k.toNat = mpK T L (k + 1).toNat := by
  rw [← mpK_set h h0 hy]
  have hl := (List.getElem?_eq_some_iff.mp hy).1
  refine (List.ext_getElem? fun j => ?_).symm
  rw [List.getElem?_set]
  by_cases hj : k.toNat = j
  · subst hj
    rw [if_pos rfl, if_pos (by rw [mpK_len h]; omega), mpK_at h ⟨h0, by omega⟩, hz]
  · rw [if_neg hj]
theorem mpK_end {α : Type} {T L : List α} {k : Int} (h : T.length = L.length) (hk : (L.length : Int) ≤ k) : mpK T L k.toNat = T := by
  unfold mpK
  rw [List.take_of_length_le (by omega), List.drop_of_length_le (by omega), List.append_nil]
theorem lsum_tk {α : Type} {g : α → Int} {L : List α} {k : Int} {x : α} (h0 : 0 ≤ k) (hx : L[k.toNat]? = some x) : lsum g (L.take (k + 1).toNat) = lsum g (L.take k.toNat) + g x := by
  rw [show (k + 1).toNat = k.toNat + 1 by omega, List.take_succ, hx, Option.toList_some, lsum_app, lsum_one]
theorem lsum_end {α : Type} {g : α → Int} {L : List α} {k : Int} (hk : (L.length : Int) ≤ k) : lsum g (L.take k.toNat) = lsum g L := by
  rw [List.take_of_length_le (by omega)]
def hst (f : Int → Int) : Int := if f 1 < 4 * f 2 then 0 else f 2
def nzB (p : Nat × El) : Bool := decide (p.2.2.1 ≠ 0)
theorem nzB_t {p : Nat × El} (h : ¬ p.2.2.1 = 0) : nzB p = true := decide_eq_true h
theorem nzB_f {p : Nat × El} (h : p.2.2.1 = 0) : ¬ nzB p = true := fun hh => of_decide_eq_true hh h
/-- the last ones from k on are sifted -/
def dpK (zz : Nat × El → Bool) (L : ELs) (k : Nat) : ELs := L.take k ++ (L.drop k).filter zz
theorem dpK_at {zz : Nat × El → Bool} {L : ELs} {k : Int} (h : 0 ≤ k ∧ k < (L.length : Int)) : (dpK zz L (k + 1).toNat)[k.toNat]? = L[k.toNat]? := by
  unfold dpK
  rw [List.getElem?_append_left (by rw [List.length_take]; omega), List.getElem?_take, if_pos (by omega)]
theorem dpK_len {zz : Nat × El → Bool} {L : ELs} {k : Nat} : (dpK zz L k).length ≤ L.length := by
  unfold dpK
  have := List.length_filter_le zz (L.drop k)
  rw [List.length_append, List.length_take]
  rw [List.length_drop] at this
  omega
theorem dpK_lt {zz : Nat × El → Bool} {L : ELs} {k : Int} (h : 0 ≤ k ∧ k < (L.length : Int)) : k < ((dpK zz L (k + 1).toNat).length : Int) := by
  unfold dpK
  rw [List.length_append, List.length_take]
  omega
theorem dpK_keep {zz : Nat × El → Bool} {L : ELs} {k : Int} {x : Nat × El} (h0 : 0 ≤ k) (hx : L[k.toNat]? = some x) (hz : zz x = true) : dpK zz L (k + 1).toNat = dpK zz L k.toNat := by
  obtain ⟨hl, e⟩ := List.getElem?_eq_some_iff.mp hx
  unfold dpK
  rw [show (k + 1).toNat = k.toNat + 1 by omega, List.take_succ, hx, List.drop_eq_getElem_cons hl, e, List.filter_cons_of_pos hz, List.append_assoc]
  rfl
theorem dpK_er {zz : Nat × El → Bool} {L : ELs} {k : Int} {x : Nat × El} (h0 : 0 ≤ k) (hx : L[k.toNat]? = some x) (hz : ¬ zz x = true) : (dpK zz L (k + 1).toNat).eraseIdx k.toNat = dpK zz L k.toNat := by
  obtain ⟨hl, e⟩ := List.getElem?_eq_some_iff.mp hx
  unfold dpK
  rw [show (k + 1).toNat = k.toNat + 1 by omega, List.take_succ, hx, List.drop_eq_getElem_cons hl, e, List.filter_cons_of_neg hz]
  rw [Option.toList_some, List.append_assoc, List.eraseIdx_append_of_length_le (by rw [List.length_take]; omega), List.length_take, show k.toNat - min k.toNat L.length = 0 by omega]
  rfl
theorem dpK_all {zz : Nat × El → Bool} {L : ELs} {k : Nat} (h : L.length ≤ k) : dpK zz L k = L := by
  unfold dpK
  rw [List.take_of_length_le h, List.drop_of_length_le h]
  exact List.append_nil _
theorem Y_X2_heat : zYV yX2_heat cX2_heat 2 none 0 := ⟨⟨q710, qs3, q113, q711⟩, by decide +kernel, by decide⟩
set_option maxRecDepth 100000 in
theorem c_X2_heat (l : Launch) (g : zG) (h : GH) (sh : Sh) (f : Int → Int) (rc : Nat) (Ls : Nat → ELs) (w : rW g.2.2 h sh (f, rc, Ls)) (h1 : 0 ≤ f 1 ∧ f 1 ≤ 1000000) (h2 : 0 ≤ f 2 ∧ f 2 ≤ 3) : zMet l yX2_heat cX2_heat 2 none 1 0 0 [vR sh.1] g h (fun v h' => v = none ∧ rX g.2.2 h (fpS sh (f, rc, Ls)) sh (iup (iup f 2 (hst f)) 1 (f 1 - 4 * hst f), rc, Ls) h') := by
  refine zMet.mk (L0 := [some (vR sh.1), none]) (by decide) rfl (Nat.le_of_ble_eq_true rfl) rfl (fun C hg hl hnm X => ?_)
  subst hg hl
  have hX := w.start
  refine z_iconst (pc' := 1) X dX2_heat_0 rfl ?_
  refine z_aload_n (pc' := 2) X dX2_heat_1 rfl rfl ?_
  refine z_get1 (pc' := 5) (kf := 3) X in_X2 rfl (by decide) q218 (Or.inl rfl) hX.stA rfl dX2_heat_2 rfl ?_
  refine z_imul (pc' := 6) X dX2_heat_5 rfl ?_
  refine z_istore_n (pc' := 7) X dX2_heat_6 rfl (by decide) rfl ?_
  dsimp only [List.set]
  refine z_iload_n (pc' := 8) X dX2_heat_7 rfl rfl ?_
  refine z_aload_n (pc' := 9) X dX2_heat_8 rfl rfl ?_
  refine z_get1 (pc' := 12) (kf := 1) X in_X2 rfl (by decide) q214 (Or.inl rfl) hX.stA rfl dX2_heat_9 rfl ?_
  refine z_icmp_le (tgt := 23) (pc' := 15) X (by first | assumption | omega) (by first | assumption | omega) dX2_heat_12 rfl (by decide) (fun c12 => ?_) (fun c12 => ?_)
  · refine z_aload_n (pc' := 24) X dX2_heat_23 rfl rfl ?_
    refine z_dup (pc' := 25) X rfl dX2_heat_24 rfl ?_
    refine z_get1 (pc' := 28) (kf := 1) X in_X2 rfl (by decide) q214 (Or.inl rfl) hX.stA rfl dX2_heat_25 rfl ?_
    refine z_iload_n (pc' := 29) X dX2_heat_28 rfl rfl ?_
    refine z_isub (pc' := 30) X dX2_heat_29 rfl ?_
    refine z_put1 (pc' := 33) (kf := 1) X in_X2 tyX2 tyX2_ok nmX2 rfl (by decide) q214 (Or.inl rfl) rfl rfl rfl (Nat.le_of_ble_eq_true rfl) hX.stA dX2_heat_30 rfl (fun h1 e1 => ?_)
    have hX1 : rX (zg C).2.2 h (fpS sh (f, rc, Ls)) sh ((iup f 1 ((f 1 - (4 * f 2)))), rc, Ls) h1 := by rw [e1]; exact hX.num1
    refine z_ret1 X dX2_heat_33 (Nat.le_of_ble_eq_true rfl) (Nat.le_of_ble_eq_true rfl) ?_
    refine ⟨rfl, ?_⟩
    rw [show hst f = f 2 from if_neg (by omega), iup_self]
    exact hX1
  · refine z_aload_n (pc' := 16) X dX2_heat_15 rfl rfl ?_
    refine z_iconst (pc' := 17) X dX2_heat_16 rfl ?_
    refine z_put1 (pc' := 20) (kf := 3) X in_X2 tyX2 tyX2_ok nmX2 rfl (by decide) q218 (Or.inl rfl) rfl rfl rfl (Nat.le_of_ble_eq_true rfl) hX.stA dX2_heat_17 rfl (fun h2 e2 => ?_)
    have hX2 : rX (zg C).2.2 h (fpS sh (f, rc, Ls)) sh ((iup f 2 (0)), rc, Ls) h2 := by rw [e2]; exact hX.num3
    refine z_goto (tgt := 33) X dX2_heat_20 (by decide) ?_
    refine z_ret1 X dX2_heat_33 (Nat.le_of_ble_eq_true rfl) (Nat.le_of_ble_eq_true rfl) ?_
    refine ⟨rfl, ?_⟩
    rw [show hst f = 0 from if_pos (by omega), show f 1 - 4 * 0 = (iup f 2 0) 1 from (by show _ = f 1; omega), iup_self]
    exact hX2
theorem Y_X2_dropEmptyBales : zYV yX2_dropEmptyBales cX2_dropEmptyBales 2 none 0 := ⟨⟨q730, qs7, q113, q731⟩, by decide +kernel, by decide⟩
set_option maxRecDepth 100000 in
theorem c_X2_dropEmptyBales (l : Launch) (g : zG) (h : GH) (sh : Sh) (f : Int → Int) (rc : Nat) (Ls : Nat → ELs) (w : rW g.2.2 h sh (f, rc, Ls)) (hl : (Ls 1).length ≤ 24) (hr : ∀ p ∈ Ls 1, rng p.2.2.1) : zMet l yX2_dropEmptyBales cX2_dropEmptyBales 2 none 6 0 0 [vR sh.1] g h (fun v h' => v = none ∧ rX g.2.2 h (fpS sh (f, rc, Ls)) sh (f, rc, lup Ls 1 ((Ls 1).filter nzB)) h') := by
  refine zMet.mk (L0 := [some (vR sh.1), none]) (by decide) rfl (Nat.le_of_ble_eq_true rfl) rfl (fun C hg hl hnm X => ?_)
  subst hg hl
  have hX := w.start
  refine z_aload_n (pc' := 1) X dX2_dropEmptyBales_0 rfl rfl ?_
  refine z_get1 (pc' := 4) (kf := 12) X in_X2 rfl (by decide) q236 (Or.inl rfl) hX.stA rfl dX2_dropEmptyBales_1 rfl ?_
  refine z_rsize (pc' := 9) X q547 hX (i := 1) (by decide) dX2_dropEmptyBales_4 rfl (by decide) (Nat.le_of_ble_eq_true rfl) (Nat.le_of_ble_eq_true rfl) (Nat.le_of_ble_eq_true rfl) ?_
  refine z_iconst (pc' := 10) X dX2_dropEmptyBales_9 rfl ?_
  refine z_isub (pc' := 11) X dX2_dropEmptyBales_10 rfl ?_
  refine z_istore_n (pc' := 12) X dX2_dropEmptyBales_11 rfl (by decide) rfl ?_
  dsimp only [List.set]
  have loop12 : ∀ (N : Nat) (k : Int) (h12l : GH), (-1 ≤ k ∧ k < ((Ls 1).length : Int)) → (rX (zg C).2.2 h (fpS sh (f, rc, Ls)) sh (f, rc, lup Ls 1 (dpK nzB (Ls 1) (k + 1).toNat)) h12l) → (k + 1).toNat < N → ZP C 2 (zAt h12l) (0) (0) [some (vR sh.1), some (vI k)] 12 [] := by
    intro N
    induction N with
    | zero => intro k h12l hb hXl hN; exact absurd hN (Nat.not_lt_zero _)
    | succ N ih12 =>
      intro k h12l hb hXl hN
      have hdl := dpK_len (zz := nzB) (L := Ls 1) (k := (k + 1).toNat)
      have hdk : 0 ≤ k → k < ((dpK nzB (Ls 1) (k + 1).toNat).length : Int) := fun hh => dpK_lt ⟨hh, hb.2⟩
      refine z_iload_n (pc' := 13) X dX2_dropEmptyBales_12 rfl rfl ?_
      refine z_if_lt (tgt := 52) (pc' := 16) X (by first | assumption | omega) dX2_dropEmptyBales_13 rfl (by decide) (fun c13 => ?_) (fun c13 => ?_)
      · refine z_ret1 X dX2_dropEmptyBales_52 (Nat.le_of_ble_eq_true rfl) (Nat.le_of_ble_eq_true rfl) ?_
        refine ⟨rfl, ?_⟩
        have t := hXl
        rw [show (k + 1).toNat = 0 by omega] at t
        exact t
      · refine z_aload_n (pc' := 17) X dX2_dropEmptyBales_16 rfl rfl ?_
        refine z_get1 (pc' := 20) (kf := 12) X in_X2 rfl (by decide) q236 (Or.inl rfl) hXl.stA rfl dX2_dropEmptyBales_17 rfl ?_
        refine z_iload_n (pc' := 21) X dX2_dropEmptyBales_20 rfl rfl ?_
        obtain ⟨q1, e1, hk1⟩ := ELs.at (ps := (dpK nzB (Ls 1) (k + 1).toNat)) (k := k) (by first | assumption | omega)
        have hL1 := (dpK_at (zz := nzB) ⟨by omega, hb.2⟩).symm.trans hk1
        have hr1 := hr _ (List.mem_of_getElem? hL1)
        refine z_rget (pc' := 26) X q549 hXl (i := 1) (by decide) (j := k) hk1 (by first | assumption | omega) dX2_dropEmptyBales_21 rfl (by decide) (Nat.le_of_ble_eq_true rfl) (Nat.le_of_ble_eq_true rfl) (Nat.le_of_ble_eq_true rfl) (by show ((dpK nzB (Ls 1) (k + 1).toNat)).length ≤ 1000; omega) ?_
        refine z_castS1 (pc' := 29) X (ci := 7) q567 rfl ⟨_, (hXl.el1 hk1)⟩ dX2_dropEmptyBales_26 rfl ?_
        refine z_get1 (pc' := 32) (kf := 1) X in_X9 rfl (by decide) q639 (Or.inl rfl) (hXl.el1 hk1) rfl dX2_dropEmptyBales_29 rfl ?_
        refine z_if_ne (tgt := 46) (pc' := 35) X (by first | assumption | omega) dX2_dropEmptyBales_32 rfl (by decide) (fun c32 => ?_) (fun c32 => ?_)
        · refine z_iinc (pc' := 49) X dX2_dropEmptyBales_46 rfl (by decide) rfl rfl ?_
          dsimp only [List.set]
          refine z_goto (tgt := 12) X dX2_dropEmptyBales_49 (by decide) ?_
          refine ZP.wk (L' := [some (vR sh.1), some (vI _)]) (And.intro rfl (And.intro rfl (trivial))) ?_
          exact ZP.mono (Nat.le_of_ble_eq_true rfl) (Nat.le_of_ble_eq_true rfl) (ih12 _  h12l (by omega) (by rw [show k + -1 + 1 = k by omega, ← dpK_keep (by omega) hL1 (nzB_t c32)]; exact hXl) (by omega))
        · refine z_aload_n (pc' := 36) X dX2_dropEmptyBales_35 rfl rfl ?_
          refine z_get1 (pc' := 39) (kf := 12) X in_X2 rfl (by decide) q236 (Or.inl rfl) hXl.stA rfl dX2_dropEmptyBales_36 rfl ?_
          refine z_iload_n (pc' := 40) X dX2_dropEmptyBales_39 rfl rfl ?_
          refine z_rrem (pc' := 45) X q733 hXl (i := 1) (by decide) (j := k) hk1 (by first | assumption | omega) dX2_dropEmptyBales_40 rfl (by decide) (Nat.le_of_ble_eq_true rfl) (Nat.le_of_ble_eq_true rfl) (Nat.le_of_ble_eq_true rfl) (fun h2 hX2 hf2 hr2 => ?_)
          rw [lup_lup] at hX2
          have hZ2 : rX (zg C).2.2 h (fpS sh (f, rc, Ls)) sh (f, rc, (lup Ls 1 (((dpK nzB (Ls 1) (k + 1).toNat)).eraseIdx (k).toNat))) h2 := hX2
          have hq2 := hXl.rmel (i := 1) (by decide) hk1 hf2
          refine z_pop (pc' := 46) X rfl dX2_dropEmptyBales_45 rfl ?_
          refine z_iinc (pc' := 49) X dX2_dropEmptyBales_46 rfl (by decide) rfl rfl ?_
          dsimp only [List.set]
          refine z_goto (tgt := 12) X dX2_dropEmptyBales_49 (by decide) ?_
          refine ZP.wk (L' := [some (vR sh.1), some (vI _)]) (And.intro rfl (And.intro rfl (trivial))) ?_
          exact ZP.mono (Nat.le_of_ble_eq_true rfl) (Nat.le_of_ble_eq_true rfl) (ih12 _  h2 (by omega) (by have t := hZ2; rw [dpK_er (by omega) hL1 (nzB_f (by omega))] at t; rw [show k + -1 + 1 = k by omega]; exact t) (by omega))
  refine ZP.wk (L' := [some (vR sh.1), some (vI _)]) (And.intro rfl (And.intro rfl (trivial))) ?_
  exact ZP.mono (Nat.le_of_ble_eq_true rfl) (Nat.le_of_ble_eq_true rfl) (loop12 _ _  h (by omega) (by rw [show ((Ls 1).length : Int) - 1 + 1 = (Ls 1).length by omega, dpK_all (by omega), lup_self]; exact hX) (Nat.lt_succ_self _))
def moR (L : ELs) (j : Int) : Int := if 0 ≤ j then ((L[j.toNat]?).map (fun p => p.2.2.2.2.2)).getD 0 else 0
theorem moR_at {L : ELs} {k : Int} {q : Nat} {e : El} (h0 : 0 ≤ k) (hk : L[k.toNat]? = some (q, e)) : moR L k = e.2.2.2.2 := by
  unfold moR
  rw [if_pos h0, hk]
  rfl
theorem moR_no {L : ELs} {k : Int} (h : k < 0 ∨ (L.length : Int) ≤ k) : moR L k = 0 := by
  unfold moR
  split
  · rw [List.getElem?_eq_none (by omega)]
    rfl
  · rfl
theorem moR_01 {L : ELs} (hE : ∀ p ∈ L, okE p.2) (k : Int) : moR L k = 0 ∨ moR L k = 1 := by
  by_cases h : k < 0 ∨ (L.length : Int) ≤ k
  · exact Or.inl (moR_no h)
  · obtain ⟨q, e, hk⟩ := ELs.at (ps := L) (k := k) (by omega)
    rw [moR_at (by omega) hk]
    exact (hE _ (List.mem_of_getElem? hk)).2.2.2.2
def spE (L : ELs) (i : Int) (e : El) : El := if e.2.2.2.2 = 0 ∧ 20 ≤ e.2.2.1 ∧ (moR L (i - 1) = 1 ∨ moR L (i + 1) = 1) then (e.1, e.2.1, e.2.2.1, e.2.2.2.1, 1) else e
def spC (L : ELs) (i : Int) (e : El) : Int := if e.2.2.2.2 = 0 ∧ 20 ≤ e.2.2.1 ∧ (moR L (i - 1) = 1 ∨ moR L (i + 1) = 1) then 1 else 0
def spL (L : ELs) : ELs := L.mapIdx fun i p => (p.1, spE L i p.2)
def spN (L : ELs) : Nat → Int
  | 0 => 0
  | k + 1 => spN L k + match L[k]? with
    | some p => spC L k p.2
    | none => 0
theorem spL_len {L : ELs} : (spL L).length = L.length := List.length_mapIdx
theorem spL_at {L : ELs} {k : Int} {q : Nat} {e : El} (h0 : 0 ≤ k) (hk : L[k.toNat]? = some (q, e)) : (spL L)[k.toNat]? = some (q, spE L k e) := by
  unfold spL
  rw [List.getElem?_mapIdx, hk]
  show some (q, spE L (k.toNat : Int) e) = _
  rw [Int.toNat_of_nonneg h0]
theorem spN_s {L : ELs} {k : Int} {q : Nat} {e : El} (h0 : 0 ≤ k) (hk : L[k.toNat]? = some (q, e)) : spN L (k + 1).toNat = spN L k.toNat + spC L k e := by
  rw [show (k + 1).toNat = k.toNat + 1 by omega]
  show spN L k.toNat + _ = _
  rw [hk]
  show spN L k.toNat + spC L (k.toNat : Int) e = _
  rw [Int.toNat_of_nonneg h0]
theorem Y_X2_spreadMould : zYV yX2_spreadMould cX2_spreadMould 5 none 0 := ⟨⟨q722, qs6, q113, q723⟩, by decide +kernel, by decide⟩
set_option maxRecDepth 100000 in
theorem c_X2_spreadMould (l : Launch) (g : zG) (h : GH) (sh : Sh) (f : Int → Int) (rc : Nat) (Ls : Nat → ELs) (w : rW g.2.2 h sh (f, rc, Ls)) (hl : (Ls 1).length ≤ 24) (hE : ∀ p ∈ Ls 1, okE p.2) : zMet l yX2_spreadMould cX2_spreadMould 5 none 6 1 24 [vR sh.1] g h (fun v h' => v = none ∧ rX g.2.2 h (fpS sh (f, rc, Ls)) sh (iup f 205 (f 205 + spN (Ls 1) (Ls 1).length), rc, lup Ls 1 (spL (Ls 1))) h') := by
  refine zMet.mk (L0 := [some (vR sh.1), none, none, none, none]) (by decide) rfl (Nat.le_of_ble_eq_true rfl) rfl (fun C hg hl hnm X => ?_)
  subst hg hl
  have hX := w.start
  refine z_aload_n (pc' := 1) X dX2_spreadMould_0 rfl rfl ?_
  refine z_get1 (pc' := 4) (kf := 12) X in_X2 rfl (by decide) q236 (Or.inl rfl) hX.stA rfl dX2_spreadMould_1 rfl ?_
  refine z_rsize (pc' := 9) X q547 hX (i := 1) (by decide) dX2_spreadMould_4 rfl (by decide) (Nat.le_of_ble_eq_true rfl) (by omega) (by omega) ?_
  refine z_istore_n (pc' := 10) X dX2_spreadMould_9 rfl (by decide) rfl ?_
  dsimp only [List.set]
  refine z_iload_n (pc' := 11) X dX2_spreadMould_10 rfl rfl ?_
  refine z_newz1 (pc' := 13) X (N := (Ls 1).length) (by first | decide | omega) dX2_spreadMould_11 rfl (by omega) (by omega) (fun q1 h1 n1 e1 => ?_)
  have g1 := (congrFun e1 q1).trans hset_s
  have hX1 : rX (zg C).2.2 h (fpS sh (f, rc, Ls)) sh (f, rc, Ls) h1 := by rw [e1]; exact hX.new n1
  have hnq : h q1 = none := n1
  refine z_astore_n (pc' := 14) X dX2_spreadMould_13 rfl (by decide) rfl ?_
  dsimp only [List.set]
  refine z_iconst (pc' := 15) X dX2_spreadMould_14 rfl ?_
  refine z_istore_n (pc' := 16) X dX2_spreadMould_15 rfl (by decide) rfl ?_
  dsimp only [List.set]
  have loop16 : ∀ (N : Nat) (k : Int) (gg : Int → Int) (h16l : GH), (0 ≤ k ∧ k ≤ ((Ls 1).length : Int)) → (rX (zg C).2.2 h (fpS sh (f, rc, Ls)) sh (f, rc, Ls) h16l) → (h16l q1 = some (zAi 12 (Ls 1).length gg)) → (∀ j, 0 ≤ j → j < k → gg j = moR (Ls 1) j) → (((Ls 1).length : Int) - k).toNat < N → ZP C 5 (zAt h16l) (1) ((Ls 1).length) [some (vR sh.1), some (vI ((Ls 1).length : Int)), some (vR q1), some (vI k), none] 16 [] := by
    intro N
    induction N with
    | zero => intro k gg h16l hb hX1l hA1 hG hN; exact absurd hN (Nat.not_lt_zero _)
    | succ N ih16 =>
      intro k gg h16l hb hX1l hA1 hG hN
      refine z_iload_n (pc' := 17) X dX2_spreadMould_16 rfl rfl ?_
      refine z_iload_n (pc' := 18) X dX2_spreadMould_17 rfl rfl ?_
      refine z_icmp_ge (tgt := 46) (pc' := 21) X (by first | assumption | omega | exact bI_rng2) (by first | assumption | omega | exact bI_rng2) dX2_spreadMould_18 rfl (by decide) (fun c18 => ?_) (fun c18 => ?_)
      · refine z_iconst (pc' := 47) X dX2_spreadMould_46 rfl ?_
        refine z_istore_n (pc' := 48) X dX2_spreadMould_47 rfl (by decide) rfl ?_
        dsimp only [List.set]
        have loop48 : ∀ (N : Nat) (k2 : Int) (h48l : GH), (0 ≤ k2 ∧ k2 ≤ ((Ls 1).length : Int)) → (rX (zg C).2.2 h (fpS sh (f, rc, Ls)) sh (iup f 205 (f 205 + spN (Ls 1) k2.toNat), rc, lup Ls 1 (mpK (spL (Ls 1)) (Ls 1) k2.toNat)) h48l) → (h48l q1 = some (zAi 12 (Ls 1).length gg)) → (((Ls 1).length : Int) - k2).toNat < N → ZP C 5 (zAt h48l) (1) ((Ls 1).length) [some (vR sh.1), some (vI ((Ls 1).length : Int)), some (vR q1), some (vI k2), none] 48 [] := by
          intro N
          induction N with
          | zero => intro k2 h48l hb2 hX2l hA2 hN; exact absurd hN (Nat.not_lt_zero _)
          | succ N ih48 =>
            intro k2 h48l hb2 hX2l hA2 hN
            have hml := mpK_len (T := spL (Ls 1)) (L := Ls 1) (k := k2.toNat) spL_len
            have hg0 : 0 ≤ k2 - 1 → k2 - 1 < ((Ls 1).length : Int) → gg (k2 - 1) = 0 ∨ gg (k2 - 1) = 1 := fun a c => by rw [hG _ a (by omega)]; exact moR_01 hE _
            have hg1 : 0 ≤ k2 + 1 → k2 + 1 < ((Ls 1).length : Int) → gg (k2 + 1) = 0 ∨ gg (k2 + 1) = 1 := fun a c => by rw [hG _ a (by omega)]; exact moR_01 hE _
            refine z_iload_n (pc' := 49) X dX2_spreadMould_48 rfl rfl ?_
            refine z_iload_n (pc' := 50) X dX2_spreadMould_49 rfl rfl ?_
            refine z_icmp_ge (tgt := 134) (pc' := 53) X (by first | assumption | omega | exact bI_rng2) (by first | assumption | omega | exact bI_rng2) dX2_spreadMould_50 rfl (by decide) (fun c50 => ?_) (fun c50 => ?_)
            · refine z_ret1 X dX2_spreadMould_134 (by decide) (by omega) ?_
              refine ⟨rfl, ?_⟩
              have t := hX2l
              rw [mpK_end spL_len (by omega), show k2.toNat = (Ls 1).length by omega] at t
              exact t
            · refine z_iload_n (pc' := 54) X dX2_spreadMould_53 rfl rfl ?_
              refine z_if_le (tgt := 65) (pc' := 57) X (by first | assumption | omega | exact bI_rng2) dX2_spreadMould_54 rfl (by decide) (fun c54 => ?_) (fun c54 => ?_)
              · refine z_iload_n (pc' := 66) X dX2_spreadMould_65 rfl rfl ?_
                refine z_iload_n (pc' := 67) X dX2_spreadMould_66 rfl rfl ?_
                refine z_iconst (pc' := 68) X dX2_spreadMould_67 rfl ?_
                refine z_isub (pc' := 69) X dX2_spreadMould_68 rfl ?_
                refine z_icmp_ge (tgt := 84) (pc' := 72) X (by first | assumption | omega | exact bI_rng2) (by first | assumption | omega | exact bI_rng2) dX2_spreadMould_69 rfl (by decide) (fun c69 => ?_) (fun c69 => ?_)
                · refine z_iconst (pc' := 85) X dX2_spreadMould_84 rfl ?_
                  refine z_istore (pc' := 87) X dX2_spreadMould_85 rfl (by decide) rfl ?_
                  dsimp only [List.set]
                  refine z_iload (pc' := 89) X dX2_spreadMould_87 rfl rfl ?_
                  refine z_if_eq (tgt := 128) (pc' := 92) X (by first | assumption | omega | exact bI_rng2) dX2_spreadMould_89 rfl (by decide) (fun c89 => ?_) (fun c89 => ?_)
                  · refine z_iinc (pc' := 131) X dX2_spreadMould_128 rfl (by decide) rfl rfl ?_
                    dsimp only [List.set]
                    refine z_goto (tgt := 48) X dX2_spreadMould_131 (by decide) ?_
                    obtain ⟨qq, ee, hk9⟩ := ELs.at (ps := (Ls 1)) (k := k2) (by omega)
                    have hL := hk9
                    have hT := spL_at hb2.1 hL
                    have hS := spN_s hb2.1 hL
                    have hm0 := hG (k2 - 1)
                    have hm1 := hG (k2 + 1)
                    have hz0 := moR_no (L := Ls 1) (k := k2 - 1)
                    have hz1 := moR_no (L := Ls 1) (k := k2 + 1)
                    have hC : ¬ (ee.2.2.2.2 = 0 ∧ 20 ≤ ee.2.2.1 ∧ (moR (Ls 1) (k2 - 1) = 1 ∨ moR (Ls 1) (k2 + 1) = 1)) := by omega
                    refine ZP.wk (L' := [some (vR sh.1), some (vI _), some (vR _), some (vI _), none]) (And.intro rfl (And.intro rfl (And.intro rfl (And.intro rfl (trivial))))) ?_
                    exact ZP.mono (by omega) (by omega) (ih48 _  h48l (by omega) (by rw [← mpK_same spL_len hb2.1 (hT.trans (by rw [show spE (Ls 1) k2 _ = _ from if_neg hC])) hL, hS, show spC (Ls 1) k2 _ = 0 from if_neg hC, Int.add_zero]; exact hX2l) hA2 (by omega))
                  · exact absurd rfl c89
                · refine z_aload_n (pc' := 73) X dX2_spreadMould_72 rfl rfl ?_
                  refine z_iload_n (pc' := 74) X dX2_spreadMould_73 rfl rfl ?_
                  refine z_iconst (pc' := 75) X dX2_spreadMould_74 rfl ?_
                  refine z_iadd (pc' := 76) X dX2_spreadMould_75 rfl ?_
                  refine z_zald1 (pc' := 77) X hA2 (by first | assumption | omega | exact bI_rng2) (by omega) dX2_spreadMould_76 rfl ?_
                  refine z_if_eq (tgt := 84) (pc' := 80) X (by first | assumption | omega | exact bI_rng2) dX2_spreadMould_77 rfl (by decide) (fun c77 => ?_) (fun c77 => ?_)
                  · refine z_iconst (pc' := 85) X dX2_spreadMould_84 rfl ?_
                    refine z_istore (pc' := 87) X dX2_spreadMould_85 rfl (by decide) rfl ?_
                    dsimp only [List.set]
                    refine z_iload (pc' := 89) X dX2_spreadMould_87 rfl rfl ?_
                    refine z_if_eq (tgt := 128) (pc' := 92) X (by first | assumption | omega | exact bI_rng2) dX2_spreadMould_89 rfl (by decide) (fun c89 => ?_) (fun c89 => ?_)
                    · refine z_iinc (pc' := 131) X dX2_spreadMould_128 rfl (by decide) rfl rfl ?_
                      dsimp only [List.set]
                      refine z_goto (tgt := 48) X dX2_spreadMould_131 (by decide) ?_
                      obtain ⟨qq, ee, hk9⟩ := ELs.at (ps := (Ls 1)) (k := k2) (by omega)
                      have hL := hk9
                      have hT := spL_at hb2.1 hL
                      have hS := spN_s hb2.1 hL
                      have hm0 := hG (k2 - 1)
                      have hm1 := hG (k2 + 1)
                      have hz0 := moR_no (L := Ls 1) (k := k2 - 1)
                      have hz1 := moR_no (L := Ls 1) (k := k2 + 1)
                      have hC : ¬ (ee.2.2.2.2 = 0 ∧ 20 ≤ ee.2.2.1 ∧ (moR (Ls 1) (k2 - 1) = 1 ∨ moR (Ls 1) (k2 + 1) = 1)) := by omega
                      refine ZP.wk (L' := [some (vR sh.1), some (vI _), some (vR _), some (vI _), none]) (And.intro rfl (And.intro rfl (And.intro rfl (And.intro rfl (trivial))))) ?_
                      exact ZP.mono (by omega) (by omega) (ih48 _  h48l (by omega) (by rw [← mpK_same spL_len hb2.1 (hT.trans (by rw [show spE (Ls 1) k2 _ = _ from if_neg hC])) hL, hS, show spC (Ls 1) k2 _ = 0 from if_neg hC, Int.add_zero]; exact hX2l) hA2 (by omega))
                    · exact absurd rfl c89
                  · refine z_iconst (pc' := 81) X dX2_spreadMould_80 rfl ?_
                    refine z_goto (tgt := 85) X dX2_spreadMould_81 (by decide) ?_
                    refine z_istore (pc' := 87) X dX2_spreadMould_85 rfl (by decide) rfl ?_
                    dsimp only [List.set]
                    refine z_iload (pc' := 89) X dX2_spreadMould_87 rfl rfl ?_
                    refine z_if_eq (tgt := 128) (pc' := 92) X (by first | assumption | omega | exact bI_rng2) dX2_spreadMould_89 rfl (by decide) (fun c89 => ?_) (fun c89 => ?_)
                    · exact absurd c89 (by decide)
                    · refine z_aload_n (pc' := 93) X dX2_spreadMould_92 rfl rfl ?_
                      refine z_get1 (pc' := 96) (kf := 12) X in_X2 rfl (by decide) q236 (Or.inl rfl) hX2l.stA rfl dX2_spreadMould_93 rfl ?_
                      refine z_iload_n (pc' := 97) X dX2_spreadMould_96 rfl rfl ?_
                      obtain ⟨q2, e2, hk2⟩ := ELs.at (ps := (mpK (spL (Ls 1)) (Ls 1) k2.toNat)) (k := k2) (by first | assumption | omega | exact bI_rng2)
                      have hL2 := (mpK_at spL_len (by omega)).symm.trans hk2
                      have hE2 : okE e2 := hE _ (List.mem_of_getElem? hL2)
                      obtain ⟨hE1, hE2, hE3, hE4, hE5⟩ := hE2
                      refine z_rget (pc' := 102) X q549 hX2l (i := 1) (by decide) (j := k2) hk2 (by first | assumption | omega | exact bI_rng2) dX2_spreadMould_97 rfl (by decide) (Nat.le_of_ble_eq_true rfl) (by omega) (by omega) (by show ((mpK (spL (Ls 1)) (Ls 1) k2.toNat)).length ≤ 1000; omega) ?_
                      refine z_castS1 (pc' := 105) X (ci := 7) q567 rfl ⟨_, (hX2l.el1 hk2)⟩ dX2_spreadMould_102 rfl ?_
                      refine z_callV0 (pc' := 108) X Y_X9_catchesMould q724 dX2_spreadMould_105 rfl (Nat.le_of_ble_eq_true rfl) (by omega) (by omega) rfl rfl (Nat.le_of_ble_eq_true rfl) rfl ⟨_, (hX2l.el1 hk2)⟩ (c_X9_catchesMould _ _ _ (q2) (e2.1) (e2.2.1) (e2.2.2.1) (e2.2.2.2.1) (e2.2.2.2.2) (hX2l.el1 hk2) (by omega) (by omega)) ?_
                      dsimp only [zst]
                      refine z_if_eq (tgt := 128) (pc' := 111) X (by first | assumption | omega | exact bI_rng2) dX2_spreadMould_108 rfl (by decide) (fun c108 => ?_) (fun c108 => ?_)
                      · refine z_iinc (pc' := 131) X dX2_spreadMould_128 rfl (by decide) rfl rfl ?_
                        dsimp only [List.set]
                        refine z_goto (tgt := 48) X dX2_spreadMould_131 (by decide) ?_
                        have hL := hL2
                        have hT := spL_at hb2.1 hL
                        have hS := spN_s hb2.1 hL
                        have hm0 := hG (k2 - 1)
                        have hm1 := hG (k2 + 1)
                        have hz0 := moR_no (L := Ls 1) (k := k2 - 1)
                        have hz1 := moR_no (L := Ls 1) (k := k2 + 1)
                        have hc9 := bI_e0 c108
                        have hC : ¬ (e2.2.2.2.2 = 0 ∧ 20 ≤ e2.2.2.1 ∧ (moR (Ls 1) (k2 - 1) = 1 ∨ moR (Ls 1) (k2 + 1) = 1)) := by omega
                        refine ZP.wk (L' := [some (vR sh.1), some (vI _), some (vR _), some (vI _), none]) (And.intro rfl (And.intro rfl (And.intro rfl (And.intro rfl (trivial))))) ?_
                        exact ZP.mono (by omega) (by omega) (ih48 _  h48l (by omega) (by rw [← mpK_same spL_len hb2.1 (hT.trans (by rw [show spE (Ls 1) k2 _ = _ from if_neg hC])) hL, hS, show spC (Ls 1) k2 _ = 0 from if_neg hC, Int.add_zero]; exact hX2l) hA2 (by omega))
                      · refine z_aload_n (pc' := 112) X dX2_spreadMould_111 rfl rfl ?_
                        refine z_aload_n (pc' := 113) X dX2_spreadMould_112 rfl rfl ?_
                        refine z_get1 (pc' := 116) (kf := 12) X in_X2 rfl (by decide) q236 (Or.inl rfl) hX2l.stA rfl dX2_spreadMould_113 rfl ?_
                        refine z_iload_n (pc' := 117) X dX2_spreadMould_116 rfl rfl ?_
                        refine z_rget (pc' := 122) X q549 hX2l (i := 1) (by decide) (j := k2) hk2 (by first | assumption | omega | exact bI_rng2) dX2_spreadMould_117 rfl (by decide) (Nat.le_of_ble_eq_true rfl) (by omega) (by omega) (by show ((mpK (spL (Ls 1)) (Ls 1) k2.toNat)).length ≤ 1000; omega) ?_
                        refine z_castS1 (pc' := 125) X (ci := 7) q567 rfl ⟨_, (hX2l.el1 hk2)⟩ dX2_spreadMould_122 rfl ?_
                        refine z_callV1 (pc' := 128) X Y_X2_becomeMouldy q716 dX2_spreadMould_125 rfl (Nat.le_of_ble_eq_true rfl) (by omega) (by omega) rfl rfl (Nat.le_of_ble_eq_true rfl) rfl ⟨_, hX2l.stA⟩ (c_X2_becomeMouldy _ _ _ sh ((iup f 205 (f 205 + spN (Ls 1) k2.toNat))) rc ((lup Ls 1 ((mpK (spL (Ls 1)) (Ls 1) k2.toNat)))) hX2l.1 ((k2).toNat) q2 e2 hk2) (fun v4 h4 p4 => ?_)
                        obtain ⟨ev4, p4⟩ := p4
                        subst ev4
                        dsimp only [zst]
                        have hX4 : rX (zg C).2.2 h (fpS sh (f, rc, Ls)) sh ((iup ((iup f 205 (f 205 + spN (Ls 1) k2.toNat))) 205 (((iup f 205 (f 205 + spN (Ls 1) k2.toNat))) 205 + 1)), rc, (lup Ls 1 (((mpK (spL (Ls 1)) (Ls 1) k2.toNat)).set (k2).toNat (q2, (e2.1, e2.2.1, e2.2.2.1, e2.2.2.2.1, 1))))) h4 := by have t := hX2l.comp p4; rw [lup_lup] at t; exact t
                        have fa5 := p4.2.1.2 _ _ hA2 (hX2l.nowr hA2 stE_ai)
                        refine z_iinc (pc' := 131) X dX2_spreadMould_128 rfl (by decide) rfl rfl ?_
                        dsimp only [List.set]
                        refine z_goto (tgt := 48) X dX2_spreadMould_131 (by decide) ?_
                        have hL := hL2
                        have hT := spL_at hb2.1 hL
                        have hS := spN_s hb2.1 hL
                        have hm0 := hG (k2 - 1)
                        have hm1 := hG (k2 + 1)
                        have hz0 := moR_no (L := Ls 1) (k := k2 - 1)
                        have hz1 := moR_no (L := Ls 1) (k := k2 + 1)
                        have hc9 := bI_n0 c108
                        have hd0 := moR_01 hE (k2 - 1)
                        have hd1 := moR_01 hE (k2 + 1)
                        have hC : e2.2.2.2.2 = 0 ∧ 20 ≤ e2.2.2.1 ∧ (moR (Ls 1) (k2 - 1) = 1 ∨ moR (Ls 1) (k2 + 1) = 1) := by omega
                        refine ZP.wk (L' := [some (vR sh.1), some (vI _), some (vR _), some (vI _), none]) (And.intro rfl (And.intro rfl (And.intro rfl (And.intro rfl (trivial))))) ?_
                        exact ZP.mono (by omega) (by omega) (ih48 _  h4 (by omega) (by have t := hX4; rw [iup_up] at t; rw [← mpK_set spL_len hb2.1 (hT.trans (by rw [show spE (Ls 1) k2 _ = _ from if_pos hC])), hS, show spC (Ls 1) k2 _ = 1 from if_pos hC, ← Int.add_assoc]; exact t) fa5 (by omega))
              · refine z_aload_n (pc' := 58) X dX2_spreadMould_57 rfl rfl ?_
                refine z_iload_n (pc' := 59) X dX2_spreadMould_58 rfl rfl ?_
                refine z_iconst (pc' := 60) X dX2_spreadMould_59 rfl ?_
                refine z_isub (pc' := 61) X dX2_spreadMould_60 rfl ?_
                refine z_zald1 (pc' := 62) X hA2 (by first | assumption | omega | exact bI_rng2) (by omega) dX2_spreadMould_61 rfl ?_
                refine z_if_ne (tgt := 80) (pc' := 65) X (by first | assumption | omega | exact bI_rng2) dX2_spreadMould_62 rfl (by decide) (fun c62 => ?_) (fun c62 => ?_)
                · refine z_iconst (pc' := 81) X dX2_spreadMould_80 rfl ?_
                  refine z_goto (tgt := 85) X dX2_spreadMould_81 (by decide) ?_
                  refine z_istore (pc' := 87) X dX2_spreadMould_85 rfl (by decide) rfl ?_
                  dsimp only [List.set]
                  refine z_iload (pc' := 89) X dX2_spreadMould_87 rfl rfl ?_
                  refine z_if_eq (tgt := 128) (pc' := 92) X (by first | assumption | omega | exact bI_rng2) dX2_spreadMould_89 rfl (by decide) (fun c89 => ?_) (fun c89 => ?_)
                  · exact absurd c89 (by decide)
                  · refine z_aload_n (pc' := 93) X dX2_spreadMould_92 rfl rfl ?_
                    refine z_get1 (pc' := 96) (kf := 12) X in_X2 rfl (by decide) q236 (Or.inl rfl) hX2l.stA rfl dX2_spreadMould_93 rfl ?_
                    refine z_iload_n (pc' := 97) X dX2_spreadMould_96 rfl rfl ?_
                    obtain ⟨q6, e6, hk6⟩ := ELs.at (ps := (mpK (spL (Ls 1)) (Ls 1) k2.toNat)) (k := k2) (by first | assumption | omega | exact bI_rng2)
                    have hL6 := (mpK_at spL_len (by omega)).symm.trans hk6
                    have hE6 : okE e6 := hE _ (List.mem_of_getElem? hL6)
                    obtain ⟨hE1, hE2, hE3, hE4, hE5⟩ := hE6
                    refine z_rget (pc' := 102) X q549 hX2l (i := 1) (by decide) (j := k2) hk6 (by first | assumption | omega | exact bI_rng2) dX2_spreadMould_97 rfl (by decide) (Nat.le_of_ble_eq_true rfl) (by omega) (by omega) (by show ((mpK (spL (Ls 1)) (Ls 1) k2.toNat)).length ≤ 1000; omega) ?_
                    refine z_castS1 (pc' := 105) X (ci := 7) q567 rfl ⟨_, (hX2l.el1 hk6)⟩ dX2_spreadMould_102 rfl ?_
                    refine z_callV0 (pc' := 108) X Y_X9_catchesMould q724 dX2_spreadMould_105 rfl (Nat.le_of_ble_eq_true rfl) (by omega) (by omega) rfl rfl (Nat.le_of_ble_eq_true rfl) rfl ⟨_, (hX2l.el1 hk6)⟩ (c_X9_catchesMould _ _ _ (q6) (e6.1) (e6.2.1) (e6.2.2.1) (e6.2.2.2.1) (e6.2.2.2.2) (hX2l.el1 hk6) (by omega) (by omega)) ?_
                    dsimp only [zst]
                    refine z_if_eq (tgt := 128) (pc' := 111) X (by first | assumption | omega | exact bI_rng2) dX2_spreadMould_108 rfl (by decide) (fun c108 => ?_) (fun c108 => ?_)
                    · refine z_iinc (pc' := 131) X dX2_spreadMould_128 rfl (by decide) rfl rfl ?_
                      dsimp only [List.set]
                      refine z_goto (tgt := 48) X dX2_spreadMould_131 (by decide) ?_
                      have hL := hL6
                      have hT := spL_at hb2.1 hL
                      have hS := spN_s hb2.1 hL
                      have hm0 := hG (k2 - 1)
                      have hm1 := hG (k2 + 1)
                      have hz0 := moR_no (L := Ls 1) (k := k2 - 1)
                      have hz1 := moR_no (L := Ls 1) (k := k2 + 1)
                      have hc9 := bI_e0 c108
                      have hC : ¬ (e6.2.2.2.2 = 0 ∧ 20 ≤ e6.2.2.1 ∧ (moR (Ls 1) (k2 - 1) = 1 ∨ moR (Ls 1) (k2 + 1) = 1)) := by omega
                      refine ZP.wk (L' := [some (vR sh.1), some (vI _), some (vR _), some (vI _), none]) (And.intro rfl (And.intro rfl (And.intro rfl (And.intro rfl (trivial))))) ?_
                      exact ZP.mono (by omega) (by omega) (ih48 _  h48l (by omega) (by rw [← mpK_same spL_len hb2.1 (hT.trans (by rw [show spE (Ls 1) k2 _ = _ from if_neg hC])) hL, hS, show spC (Ls 1) k2 _ = 0 from if_neg hC, Int.add_zero]; exact hX2l) hA2 (by omega))
                    · refine z_aload_n (pc' := 112) X dX2_spreadMould_111 rfl rfl ?_
                      refine z_aload_n (pc' := 113) X dX2_spreadMould_112 rfl rfl ?_
                      refine z_get1 (pc' := 116) (kf := 12) X in_X2 rfl (by decide) q236 (Or.inl rfl) hX2l.stA rfl dX2_spreadMould_113 rfl ?_
                      refine z_iload_n (pc' := 117) X dX2_spreadMould_116 rfl rfl ?_
                      refine z_rget (pc' := 122) X q549 hX2l (i := 1) (by decide) (j := k2) hk6 (by first | assumption | omega | exact bI_rng2) dX2_spreadMould_117 rfl (by decide) (Nat.le_of_ble_eq_true rfl) (by omega) (by omega) (by show ((mpK (spL (Ls 1)) (Ls 1) k2.toNat)).length ≤ 1000; omega) ?_
                      refine z_castS1 (pc' := 125) X (ci := 7) q567 rfl ⟨_, (hX2l.el1 hk6)⟩ dX2_spreadMould_122 rfl ?_
                      refine z_callV1 (pc' := 128) X Y_X2_becomeMouldy q716 dX2_spreadMould_125 rfl (Nat.le_of_ble_eq_true rfl) (by omega) (by omega) rfl rfl (Nat.le_of_ble_eq_true rfl) rfl ⟨_, hX2l.stA⟩ (c_X2_becomeMouldy _ _ _ sh ((iup f 205 (f 205 + spN (Ls 1) k2.toNat))) rc ((lup Ls 1 ((mpK (spL (Ls 1)) (Ls 1) k2.toNat)))) hX2l.1 ((k2).toNat) q6 e6 hk6) (fun v8 h8 p8 => ?_)
                      obtain ⟨ev8, p8⟩ := p8
                      subst ev8
                      dsimp only [zst]
                      have hX8 : rX (zg C).2.2 h (fpS sh (f, rc, Ls)) sh ((iup ((iup f 205 (f 205 + spN (Ls 1) k2.toNat))) 205 (((iup f 205 (f 205 + spN (Ls 1) k2.toNat))) 205 + 1)), rc, (lup Ls 1 (((mpK (spL (Ls 1)) (Ls 1) k2.toNat)).set (k2).toNat (q6, (e6.1, e6.2.1, e6.2.2.1, e6.2.2.2.1, 1))))) h8 := by have t := hX2l.comp p8; rw [lup_lup] at t; exact t
                      have fa9 := p8.2.1.2 _ _ hA2 (hX2l.nowr hA2 stE_ai)
                      refine z_iinc (pc' := 131) X dX2_spreadMould_128 rfl (by decide) rfl rfl ?_
                      dsimp only [List.set]
                      refine z_goto (tgt := 48) X dX2_spreadMould_131 (by decide) ?_
                      have hL := hL6
                      have hT := spL_at hb2.1 hL
                      have hS := spN_s hb2.1 hL
                      have hm0 := hG (k2 - 1)
                      have hm1 := hG (k2 + 1)
                      have hz0 := moR_no (L := Ls 1) (k := k2 - 1)
                      have hz1 := moR_no (L := Ls 1) (k := k2 + 1)
                      have hc9 := bI_n0 c108
                      have hd0 := moR_01 hE (k2 - 1)
                      have hd1 := moR_01 hE (k2 + 1)
                      have hC : e6.2.2.2.2 = 0 ∧ 20 ≤ e6.2.2.1 ∧ (moR (Ls 1) (k2 - 1) = 1 ∨ moR (Ls 1) (k2 + 1) = 1) := by omega
                      refine ZP.wk (L' := [some (vR sh.1), some (vI _), some (vR _), some (vI _), none]) (And.intro rfl (And.intro rfl (And.intro rfl (And.intro rfl (trivial))))) ?_
                      exact ZP.mono (by omega) (by omega) (ih48 _  h8 (by omega) (by have t := hX8; rw [iup_up] at t; rw [← mpK_set spL_len hb2.1 (hT.trans (by rw [show spE (Ls 1) k2 _ = _ from if_pos hC])), hS, show spC (Ls 1) k2 _ = 1 from if_pos hC, ← Int.add_assoc]; exact t) fa9 (by omega))
                · refine z_iload_n (pc' := 66) X dX2_spreadMould_65 rfl rfl ?_
                  refine z_iload_n (pc' := 67) X dX2_spreadMould_66 rfl rfl ?_
                  refine z_iconst (pc' := 68) X dX2_spreadMould_67 rfl ?_
                  refine z_isub (pc' := 69) X dX2_spreadMould_68 rfl ?_
                  refine z_icmp_ge (tgt := 84) (pc' := 72) X (by first | assumption | omega | exact bI_rng2) (by first | assumption | omega | exact bI_rng2) dX2_spreadMould_69 rfl (by decide) (fun c69 => ?_) (fun c69 => ?_)
                  · refine z_iconst (pc' := 85) X dX2_spreadMould_84 rfl ?_
                    refine z_istore (pc' := 87) X dX2_spreadMould_85 rfl (by decide) rfl ?_
                    dsimp only [List.set]
                    refine z_iload (pc' := 89) X dX2_spreadMould_87 rfl rfl ?_
                    refine z_if_eq (tgt := 128) (pc' := 92) X (by first | assumption | omega | exact bI_rng2) dX2_spreadMould_89 rfl (by decide) (fun c89 => ?_) (fun c89 => ?_)
                    · refine z_iinc (pc' := 131) X dX2_spreadMould_128 rfl (by decide) rfl rfl ?_
                      dsimp only [List.set]
                      refine z_goto (tgt := 48) X dX2_spreadMould_131 (by decide) ?_
                      obtain ⟨qq, ee, hk9⟩ := ELs.at (ps := (Ls 1)) (k := k2) (by omega)
                      have hL := hk9
                      have hT := spL_at hb2.1 hL
                      have hS := spN_s hb2.1 hL
                      have hm0 := hG (k2 - 1)
                      have hm1 := hG (k2 + 1)
                      have hz0 := moR_no (L := Ls 1) (k := k2 - 1)
                      have hz1 := moR_no (L := Ls 1) (k := k2 + 1)
                      have hC : ¬ (ee.2.2.2.2 = 0 ∧ 20 ≤ ee.2.2.1 ∧ (moR (Ls 1) (k2 - 1) = 1 ∨ moR (Ls 1) (k2 + 1) = 1)) := by omega
                      refine ZP.wk (L' := [some (vR sh.1), some (vI _), some (vR _), some (vI _), none]) (And.intro rfl (And.intro rfl (And.intro rfl (And.intro rfl (trivial))))) ?_
                      exact ZP.mono (by omega) (by omega) (ih48 _  h48l (by omega) (by rw [← mpK_same spL_len hb2.1 (hT.trans (by rw [show spE (Ls 1) k2 _ = _ from if_neg hC])) hL, hS, show spC (Ls 1) k2 _ = 0 from if_neg hC, Int.add_zero]; exact hX2l) hA2 (by omega))
                    · exact absurd rfl c89
                  · refine z_aload_n (pc' := 73) X dX2_spreadMould_72 rfl rfl ?_
                    refine z_iload_n (pc' := 74) X dX2_spreadMould_73 rfl rfl ?_
                    refine z_iconst (pc' := 75) X dX2_spreadMould_74 rfl ?_
                    refine z_iadd (pc' := 76) X dX2_spreadMould_75 rfl ?_
                    refine z_zald1 (pc' := 77) X hA2 (by first | assumption | omega | exact bI_rng2) (by omega) dX2_spreadMould_76 rfl ?_
                    refine z_if_eq (tgt := 84) (pc' := 80) X (by first | assumption | omega | exact bI_rng2) dX2_spreadMould_77 rfl (by decide) (fun c77 => ?_) (fun c77 => ?_)
                    · refine z_iconst (pc' := 85) X dX2_spreadMould_84 rfl ?_
                      refine z_istore (pc' := 87) X dX2_spreadMould_85 rfl (by decide) rfl ?_
                      dsimp only [List.set]
                      refine z_iload (pc' := 89) X dX2_spreadMould_87 rfl rfl ?_
                      refine z_if_eq (tgt := 128) (pc' := 92) X (by first | assumption | omega | exact bI_rng2) dX2_spreadMould_89 rfl (by decide) (fun c89 => ?_) (fun c89 => ?_)
                      · refine z_iinc (pc' := 131) X dX2_spreadMould_128 rfl (by decide) rfl rfl ?_
                        dsimp only [List.set]
                        refine z_goto (tgt := 48) X dX2_spreadMould_131 (by decide) ?_
                        obtain ⟨qq, ee, hk9⟩ := ELs.at (ps := (Ls 1)) (k := k2) (by omega)
                        have hL := hk9
                        have hT := spL_at hb2.1 hL
                        have hS := spN_s hb2.1 hL
                        have hm0 := hG (k2 - 1)
                        have hm1 := hG (k2 + 1)
                        have hz0 := moR_no (L := Ls 1) (k := k2 - 1)
                        have hz1 := moR_no (L := Ls 1) (k := k2 + 1)
                        have hC : ¬ (ee.2.2.2.2 = 0 ∧ 20 ≤ ee.2.2.1 ∧ (moR (Ls 1) (k2 - 1) = 1 ∨ moR (Ls 1) (k2 + 1) = 1)) := by omega
                        refine ZP.wk (L' := [some (vR sh.1), some (vI _), some (vR _), some (vI _), none]) (And.intro rfl (And.intro rfl (And.intro rfl (And.intro rfl (trivial))))) ?_
                        exact ZP.mono (by omega) (by omega) (ih48 _  h48l (by omega) (by rw [← mpK_same spL_len hb2.1 (hT.trans (by rw [show spE (Ls 1) k2 _ = _ from if_neg hC])) hL, hS, show spC (Ls 1) k2 _ = 0 from if_neg hC, Int.add_zero]; exact hX2l) hA2 (by omega))
                      · exact absurd rfl c89
                    · refine z_iconst (pc' := 81) X dX2_spreadMould_80 rfl ?_
                      refine z_goto (tgt := 85) X dX2_spreadMould_81 (by decide) ?_
                      refine z_istore (pc' := 87) X dX2_spreadMould_85 rfl (by decide) rfl ?_
                      dsimp only [List.set]
                      refine z_iload (pc' := 89) X dX2_spreadMould_87 rfl rfl ?_
                      refine z_if_eq (tgt := 128) (pc' := 92) X (by first | assumption | omega | exact bI_rng2) dX2_spreadMould_89 rfl (by decide) (fun c89 => ?_) (fun c89 => ?_)
                      · exact absurd c89 (by decide)
                      · refine z_aload_n (pc' := 93) X dX2_spreadMould_92 rfl rfl ?_
                        refine z_get1 (pc' := 96) (kf := 12) X in_X2 rfl (by decide) q236 (Or.inl rfl) hX2l.stA rfl dX2_spreadMould_93 rfl ?_
                        refine z_iload_n (pc' := 97) X dX2_spreadMould_96 rfl rfl ?_
                        obtain ⟨q10, e10, hk10⟩ := ELs.at (ps := (mpK (spL (Ls 1)) (Ls 1) k2.toNat)) (k := k2) (by first | assumption | omega | exact bI_rng2)
                        have hL10 := (mpK_at spL_len (by omega)).symm.trans hk10
                        have hE10 : okE e10 := hE _ (List.mem_of_getElem? hL10)
                        obtain ⟨hE1, hE2, hE3, hE4, hE5⟩ := hE10
                        refine z_rget (pc' := 102) X q549 hX2l (i := 1) (by decide) (j := k2) hk10 (by first | assumption | omega | exact bI_rng2) dX2_spreadMould_97 rfl (by decide) (Nat.le_of_ble_eq_true rfl) (by omega) (by omega) (by show ((mpK (spL (Ls 1)) (Ls 1) k2.toNat)).length ≤ 1000; omega) ?_
                        refine z_castS1 (pc' := 105) X (ci := 7) q567 rfl ⟨_, (hX2l.el1 hk10)⟩ dX2_spreadMould_102 rfl ?_
                        refine z_callV0 (pc' := 108) X Y_X9_catchesMould q724 dX2_spreadMould_105 rfl (Nat.le_of_ble_eq_true rfl) (by omega) (by omega) rfl rfl (Nat.le_of_ble_eq_true rfl) rfl ⟨_, (hX2l.el1 hk10)⟩ (c_X9_catchesMould _ _ _ (q10) (e10.1) (e10.2.1) (e10.2.2.1) (e10.2.2.2.1) (e10.2.2.2.2) (hX2l.el1 hk10) (by omega) (by omega)) ?_
                        dsimp only [zst]
                        refine z_if_eq (tgt := 128) (pc' := 111) X (by first | assumption | omega | exact bI_rng2) dX2_spreadMould_108 rfl (by decide) (fun c108 => ?_) (fun c108 => ?_)
                        · refine z_iinc (pc' := 131) X dX2_spreadMould_128 rfl (by decide) rfl rfl ?_
                          dsimp only [List.set]
                          refine z_goto (tgt := 48) X dX2_spreadMould_131 (by decide) ?_
                          have hL := hL10
                          have hT := spL_at hb2.1 hL
                          have hS := spN_s hb2.1 hL
                          have hm0 := hG (k2 - 1)
                          have hm1 := hG (k2 + 1)
                          have hz0 := moR_no (L := Ls 1) (k := k2 - 1)
                          have hz1 := moR_no (L := Ls 1) (k := k2 + 1)
                          have hc9 := bI_e0 c108
                          have hC : ¬ (e10.2.2.2.2 = 0 ∧ 20 ≤ e10.2.2.1 ∧ (moR (Ls 1) (k2 - 1) = 1 ∨ moR (Ls 1) (k2 + 1) = 1)) := by omega
                          refine ZP.wk (L' := [some (vR sh.1), some (vI _), some (vR _), some (vI _), none]) (And.intro rfl (And.intro rfl (And.intro rfl (And.intro rfl (trivial))))) ?_
                          exact ZP.mono (by omega) (by omega) (ih48 _  h48l (by omega) (by rw [← mpK_same spL_len hb2.1 (hT.trans (by rw [show spE (Ls 1) k2 _ = _ from if_neg hC])) hL, hS, show spC (Ls 1) k2 _ = 0 from if_neg hC, Int.add_zero]; exact hX2l) hA2 (by omega))
                        · refine z_aload_n (pc' := 112) X dX2_spreadMould_111 rfl rfl ?_
                          refine z_aload_n (pc' := 113) X dX2_spreadMould_112 rfl rfl ?_
                          refine z_get1 (pc' := 116) (kf := 12) X in_X2 rfl (by decide) q236 (Or.inl rfl) hX2l.stA rfl dX2_spreadMould_113 rfl ?_
                          refine z_iload_n (pc' := 117) X dX2_spreadMould_116 rfl rfl ?_
                          refine z_rget (pc' := 122) X q549 hX2l (i := 1) (by decide) (j := k2) hk10 (by first | assumption | omega | exact bI_rng2) dX2_spreadMould_117 rfl (by decide) (Nat.le_of_ble_eq_true rfl) (by omega) (by omega) (by show ((mpK (spL (Ls 1)) (Ls 1) k2.toNat)).length ≤ 1000; omega) ?_
                          refine z_castS1 (pc' := 125) X (ci := 7) q567 rfl ⟨_, (hX2l.el1 hk10)⟩ dX2_spreadMould_122 rfl ?_
                          refine z_callV1 (pc' := 128) X Y_X2_becomeMouldy q716 dX2_spreadMould_125 rfl (Nat.le_of_ble_eq_true rfl) (by omega) (by omega) rfl rfl (Nat.le_of_ble_eq_true rfl) rfl ⟨_, hX2l.stA⟩ (c_X2_becomeMouldy _ _ _ sh ((iup f 205 (f 205 + spN (Ls 1) k2.toNat))) rc ((lup Ls 1 ((mpK (spL (Ls 1)) (Ls 1) k2.toNat)))) hX2l.1 ((k2).toNat) q10 e10 hk10) (fun v12 h12 p12 => ?_)
                          obtain ⟨ev12, p12⟩ := p12
                          subst ev12
                          dsimp only [zst]
                          have hX12 : rX (zg C).2.2 h (fpS sh (f, rc, Ls)) sh ((iup ((iup f 205 (f 205 + spN (Ls 1) k2.toNat))) 205 (((iup f 205 (f 205 + spN (Ls 1) k2.toNat))) 205 + 1)), rc, (lup Ls 1 (((mpK (spL (Ls 1)) (Ls 1) k2.toNat)).set (k2).toNat (q10, (e10.1, e10.2.1, e10.2.2.1, e10.2.2.2.1, 1))))) h12 := by have t := hX2l.comp p12; rw [lup_lup] at t; exact t
                          have fa13 := p12.2.1.2 _ _ hA2 (hX2l.nowr hA2 stE_ai)
                          refine z_iinc (pc' := 131) X dX2_spreadMould_128 rfl (by decide) rfl rfl ?_
                          dsimp only [List.set]
                          refine z_goto (tgt := 48) X dX2_spreadMould_131 (by decide) ?_
                          have hL := hL10
                          have hT := spL_at hb2.1 hL
                          have hS := spN_s hb2.1 hL
                          have hm0 := hG (k2 - 1)
                          have hm1 := hG (k2 + 1)
                          have hz0 := moR_no (L := Ls 1) (k := k2 - 1)
                          have hz1 := moR_no (L := Ls 1) (k := k2 + 1)
                          have hc9 := bI_n0 c108
                          have hd0 := moR_01 hE (k2 - 1)
                          have hd1 := moR_01 hE (k2 + 1)
                          have hC : e10.2.2.2.2 = 0 ∧ 20 ≤ e10.2.2.1 ∧ (moR (Ls 1) (k2 - 1) = 1 ∨ moR (Ls 1) (k2 + 1) = 1) := by omega
                          refine ZP.wk (L' := [some (vR sh.1), some (vI _), some (vR _), some (vI _), none]) (And.intro rfl (And.intro rfl (And.intro rfl (And.intro rfl (trivial))))) ?_
                          exact ZP.mono (by omega) (by omega) (ih48 _  h12 (by omega) (by have t := hX12; rw [iup_up] at t; rw [← mpK_set spL_len hb2.1 (hT.trans (by rw [show spE (Ls 1) k2 _ = _ from if_pos hC])), hS, show spC (Ls 1) k2 _ = 1 from if_pos hC, ← Int.add_assoc]; exact t) fa13 (by omega))
        refine ZP.wk (L' := [some (vR sh.1), some (vI _), some (vR _), some (vI _), none]) (And.intro rfl (And.intro rfl (And.intro rfl (And.intro rfl (trivial))))) ?_
        exact ZP.mono (by omega) (by omega) (loop48 _ _  h16l (by omega) (by rw [show iup f 205 (f 205 + spN (Ls 1) (Int.toNat 0)) = f from iup_0, show lup Ls 1 (mpK (spL (Ls 1)) (Ls 1) (Int.toNat 0)) = Ls from lup_self]; exact hX1l) hA1 (Nat.lt_succ_self _))
      · refine z_aload_n (pc' := 22) X dX2_spreadMould_21 rfl rfl ?_
        refine z_iload_n (pc' := 23) X dX2_spreadMould_22 rfl rfl ?_
        refine z_aload_n (pc' := 24) X dX2_spreadMould_23 rfl rfl ?_
        refine z_get1 (pc' := 27) (kf := 12) X in_X2 rfl (by decide) q236 (Or.inl rfl) hX1l.stA rfl dX2_spreadMould_24 rfl ?_
        refine z_iload_n (pc' := 28) X dX2_spreadMould_27 rfl rfl ?_
        obtain ⟨q14, e14, hk14⟩ := ELs.at (ps := Ls 1) (k := k) (by first | assumption | omega | exact bI_rng2)
        have hE14 : okE e14 := hE _ (List.mem_of_getElem? hk14)
        obtain ⟨hE1, hE2, hE3, hE4, hE5⟩ := hE14
        refine z_rget (pc' := 33) X q549 hX1l (i := 1) (by decide) (j := k) hk14 (by first | assumption | omega | exact bI_rng2) dX2_spreadMould_28 rfl (by decide) (Nat.le_of_ble_eq_true rfl) (by omega) (by omega) (by show (Ls 1).length ≤ 1000; omega) ?_
        refine z_castS1 (pc' := 36) X (ci := 7) q567 rfl ⟨_, (hX1l.el1 hk14)⟩ dX2_spreadMould_33 rfl ?_
        refine z_get1 (pc' := 39) (kf := 4) X in_X9 rfl (by decide) q648 (Or.inl rfl) (hX1l.el1 hk14) rfl dX2_spreadMould_36 rfl ?_
        refine z_zast1 (pc' := 40) X hA1 (by first | assumption | omega | exact bI_rng2) (by omega) (by first | exact nar_0 | exact nar_1 | exact nar_b (by omega)) dX2_spreadMould_39 rfl (fun h15 e15 => ?_)
        have g15 := (congrFun e15 q1).trans hset_s
        have hX15 : rX (zg C).2.2 h (fpS sh (f, rc, Ls)) sh (f, rc, Ls) h15 := by rw [e15]; exact hX1l.wr hA1 stE_ai (Or.inr hnq)
        refine z_iinc (pc' := 43) X dX2_spreadMould_40 rfl (by decide) rfl rfl ?_
        dsimp only [List.set]
        refine z_goto (tgt := 16) X dX2_spreadMould_43 (by decide) ?_
        refine ZP.wk (L' := [some (vR sh.1), some (vI _), some (vR _), some (vI _), none]) (And.intro rfl (And.intro rfl (And.intro rfl (And.intro rfl (trivial))))) ?_
        exact ZP.mono (by omega) (by omega) (ih16 _ _ h15 (by omega) hX15 g15 (fun j a c => (Decidable.em (j = k)).elim (fun hj => by rw [hj, moR_at hb.1 hk14]; exact iup_s) (fun hj => (iup_n hj).trans (hG j a (by omega)))) (by omega))
  refine ZP.wk (L' := [some (vR sh.1), some (vI _), some (vR _), some (vI _), none]) (And.intro rfl (And.intro rfl (And.intro rfl (And.intro rfl (trivial))))) ?_
  exact ZP.mono (by omega) (by omega) (loop16 _ _ (fun _ => 0) h1 (by omega) hX1 g1 (fun j a c => by omega) (Nat.lt_succ_self _))
end ZS4
