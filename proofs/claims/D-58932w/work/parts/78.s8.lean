/-! THE STATE: pack, pass, stamp, sheetsFrom -/
section ZS8
def tC (L : ELs) (N : Int → Int) : Prop := L.length = 4 ∧ ∀ (k : Nat) (q : Nat) (e : El), L[k]? = some (q, e) → e.1 = N (13 + 2 * (k : Int)) ∧ e.2.1 = N (13 + 2 * (k : Int) + 1)
def tV (L : ELs) (N : Int → Int) : Prop := L.length = 3 ∧ ∀ (k : Nat) (q : Nat) (e : El), L[k]? = some (q, e) → e.1 = N (117 + 3 * (k : Int)) ∧ e.2.1 = N (117 + 3 * (k : Int) + 1) ∧ e.2.2.1 = N (117 + 3 * (k : Int) + 2)
def tM (L : ELs) (N : Int → Int) : Prop := L.length = 5 ∧ ∀ (k : Nat) (q : Nat) (e : El), L[k]? = some (q, e) → e.1 = (k : Int) % 3 ∧ e.2.1 = N (126 + 3 * (k : Int)) ∧ e.2.2.1 = N (126 + 3 * (k : Int) + 1) ∧ e.2.2.2.1 = N (126 + 3 * (k : Int) + 2)
theorem tC.keep {L : ELs} {N N' : Int → Int} (h : tC L N) (e : ∀ j, 13 ≤ j → j < 21 → N' j = N j) : tC L N' :=
  ⟨h.1, fun k q x hk => by
    have hl := (List.getElem?_eq_some_iff.mp hk).1
    have h1 := h.1
    rw [e _ (by omega) (by omega), e _ (by omega) (by omega)]
    exact h.2 k q x hk⟩
theorem tV.keep {L : ELs} {N N' : Int → Int} (h : tV L N) (e : ∀ j, 117 ≤ j → j < 126 → N' j = N j) : tV L N' :=
  ⟨h.1, fun k q x hk => by
    have hl := (List.getElem?_eq_some_iff.mp hk).1
    have h1 := h.1
    rw [e _ (by omega) (by omega), e _ (by omega) (by omega), e _ (by omega) (by omega)]
    exact h.2 k q x hk⟩
theorem tM.keep {L : ELs} {N N' : Int → Int} (h : tM L N) (e : ∀ j, 126 ≤ j → j < 141 → N' j = N j) : tM L N' :=
  ⟨h.1, fun k q x hk => by
    have hl := (List.getElem?_eq_some_iff.mp hk).1
    have h1 := h.1
    rw [e _ (by omega) (by omega), e _ (by omega) (by omega), e _ (by omega) (by omega)]
    exact h.2 k q x hk⟩
theorem els_set {L : ELs} {k j q x : Nat} {e e' : El} (h : (L.set k (q, e))[j]? = some (x, e')) : (k = j ∧ (q, e) = (x, e')) ∨ (k ≠ j ∧ L[j]? = some (x, e')) := by
  rw [List.getElem?_set] at h
  by_cases hj : k = j
  · rw [if_pos hj] at h
    split at h
    · exact Or.inl ⟨hj, Option.some.inj h⟩
    · cases h
  · rw [if_neg hj] at h
    exact Or.inr ⟨hj, h⟩
theorem tC.set {L : ELs} {N N' : Int → Int} {k : Int} {q : Nat} {e' : El} (h : tC L N) (h0 : 0 ≤ k) (e1 : e'.1 = N' (13 + 2 * k)) (e2 : e'.2.1 = N' (13 + 2 * k + 1)) (hN : ∀ j, 13 ≤ j → j < 21 → (j < 13 + 2 * k ∨ 13 + 2 * k + 1 < j) → N' j = N j) : tC (L.set k.toNat (q, e')) N' := by
  refine ⟨by rw [List.length_set]; exact h.1, fun j x e hj => ?_⟩
  have hl := (List.getElem?_eq_some_iff.mp hj).1
  rw [List.length_set, h.1] at hl
  rcases els_set hj with ⟨a, c⟩ | ⟨a, c⟩
  · cases c
    rw [show (j : Int) = k by omega]
    exact ⟨e1, e2⟩
  · rw [hN _ (by omega) (by omega) (by omega), hN _ (by omega) (by omega) (by omega)]
    exact h.2 j x e c
theorem tV.set {L : ELs} {N N' : Int → Int} {k : Int} {q : Nat} {e' : El} (h : tV L N) (h0 : 0 ≤ k) (e1 : e'.1 = N' (117 + 3 * k)) (e2 : e'.2.1 = N' (117 + 3 * k + 1)) (e3 : e'.2.2.1 = N' (117 + 3 * k + 2)) (hN : ∀ j, 117 ≤ j → j < 126 → (j < 117 + 3 * k ∨ 117 + 3 * k + 2 < j) → N' j = N j) : tV (L.set k.toNat (q, e')) N' := by
  refine ⟨by rw [List.length_set]; exact h.1, fun j x e hj => ?_⟩
  have hl := (List.getElem?_eq_some_iff.mp hj).1
  rw [List.length_set, h.1] at hl
  rcases els_set hj with ⟨a, c⟩ | ⟨a, c⟩
  · cases c
    rw [show (j : Int) = k by omega]
    exact ⟨e1, e2, e3⟩
  · rw [hN _ (by omega) (by omega) (by omega), hN _ (by omega) (by omega) (by omega), hN _ (by omega) (by omega) (by omega)]
    exact h.2 j x e c
theorem tM.set {L : ELs} {N N' : Int → Int} {k : Int} {q : Nat} {e' : El} (h : tM L N) (h0 : 0 ≤ k) (e0 : e'.1 = k % 3) (e1 : e'.2.1 = N' (126 + 3 * k)) (e2 : e'.2.2.1 = N' (126 + 3 * k + 1)) (e3 : e'.2.2.2.1 = N' (126 + 3 * k + 2)) (hN : ∀ j, 126 ≤ j → j < 141 → (j < 126 + 3 * k ∨ 126 + 3 * k + 2 < j) → N' j = N j) : tM (L.set k.toNat (q, e')) N' := by
  refine ⟨by rw [List.length_set]; exact h.1, fun j x e hj => ?_⟩
  have hl := (List.getElem?_eq_some_iff.mp hj).1
  rw [List.length_set, h.1] at hl
  rcases els_set hj with ⟨a, c⟩ | ⟨a, c⟩
  · cases c
    rw [show (j : Int) = k by omega]
    exact ⟨e0, e1, e2, e3⟩
  · rw [hN _ (by omega) (by omega) (by omega), hN _ (by omega) (by omega) (by omega), hN _ (by omega) (by omega) (by omega)]
    exact h.2 j x e c
theorem tie.C {f : Int → Int} {Ls : Nat → ELs} {S : St} (T : tie f Ls S) : tC (Ls 0) S.1 := T.2.1
theorem tie.V {f : Int → Int} {Ls : Nat → ELs} {S : St} (T : tie f Ls S) : tV (Ls 2) S.1 := T.2.2.2.1
theorem tie.M {f : Int → Int} {Ls : Nat → ELs} {S : St} (T : tie f Ls S) : tM (Ls 3) S.1 := T.2.2.2.2.1
theorem unitsS_app {S : St} {a b c q : Int} : lsum unitsQ (S.2.2.2 ++ [(a, b, c, q)]) = lsum unitsQ S.2.2.2 + q * 24 * mZ b := by
  rw [lsum_app, lsum_one]
  rfl
theorem pack_tie {f : Int → Int} {Ls : Nat → ELs} {S : St} {a b c n : Int} {x : Nat} (T : tie f Ls S) (hk : okY S) (hn : 0 ≤ n ∧ n ≤ 20) (he : n * 24 ≤ dryL a b c S.2.2.1) (hr : S.2.2.2.length < 30) :
    tie f (lup (lup Ls 4 ((gnR (pkX a b c) pkW (24 * n) (Ls 4)).filter nzP)) 5 (Ls 5 ++ [(x, (b, c, n, 0, 0))])) (pckS a b c n S) := by
  have hl5 := T.lens.2.2
  obtain ⟨T0, TC, TB, TV, TM, ⟨Tp, Tp1, Tp2⟩, ⟨Tr, Tr1⟩, Ta, Tz⟩ := T
  have hpk := pk_L (a := a) (b := b) (c := c) (L := Ls 4) (l := 24 * n) (by omega) Tp2
  refine ⟨T0, TC, TB, TV, TM, ⟨?_, ?_, hpk.2⟩, ⟨?_, ?_⟩, ?_, Tz⟩
  · show ((gnR (pkX a b c) pkW (24 * n) (Ls 4)).filter nzP).map Prod.snd = packL a b c (n * 24) S.2.2.1
    rw [hpk.1, Tp, Int.mul_comm]
  · show ((gnR (pkX a b c) pkW (24 * n) (Ls 4)).filter nzP).length ≤ 12
    exact Nat.le_trans (List.length_filter_le _ _) (by rw [gnR_len]; exact Tp1)
  · show (Ls 5 ++ [(x, (b, c, n, 0, 0))]).map _ = (S.2.2.2 ++ [(a, b, c, n)]).map _
    rw [List.map_append, List.map_append, Tr]
    rfl
  · show (Ls 5 ++ [(x, (b, c, n, 0, 0))]).length ≤ 30
    rw [List.length_append, hl5]
    exact hr
  · rw [Ta]
    unfold unitsS
    show _ = S.1 7 + lsum (fun b : Bl => 40 * b.2.1) S.2.1 + (S.1 117 + S.1 120 + S.1 123) + lsum (fun p : Pl => p.2.2.2.1 * mZ p.2.1) (packL a b c (n * 24) S.2.2.1) + lsum unitsQ (S.2.2.2 ++ [(a, b, c, n)])
    rw [unitsS_app, (packL_u (by omega) fun q hq => (hk.2.2.1 q hq).2.2.2.1.1).2 he]
    omega
theorem pkR_r {a b c : Int} : ∀ {L : ELs} {l : Int}, 0 ≤ l → (∀ p ∈ L, 0 ≤ p.2.2.2.2.1 ∧ p.2.2.2.2.1 ≤ 480) → ∀ p ∈ gnR (pkX a b c) pkW l L, 0 ≤ p.2.2.2.2.1 ∧ p.2.2.2.2.1 ≤ 480
  | [], _, _, _, _, h => nomatch h
  | x :: t, l, hl, hE, p, h => by
    have hx := hE x List.mem_cons_self
    have hb := pkX_b (a := a) (b := b) (c := c) hl hx.1
    rcases List.mem_cons.mp (show p ∈ (x.1, pkW x.2 (pkX a b c l x.2)) :: gnR (pkX a b c) pkW (l - pkX a b c l x.2) t from h) with e | e
    · rw [e]
      show 0 ≤ x.2.2.2.2.1 - pkX a b c l x.2 ∧ x.2.2.2.2.1 - pkX a b c l x.2 ≤ 480
      omega
    · exact pkR_r (by omega) (fun y hy => hE y (List.mem_cons_of_mem _ hy)) p e
theorem Y_X2_pack : zYV yX2_pack cX2_pack 9 none 4 := ⟨⟨q1677, q1678, q113, q1679⟩, by decide +kernel, by decide⟩
set_option maxRecDepth 100000 in
theorem c_X2_pack (l : Launch) (g : zG) (h : GH) (sh : Sh) (f : Int → Int) (rc : Nat) (Ls : Nat → ELs) (S : St) (w : rW g.2.2 h sh (f, rc, Ls)) (T : tie f Ls S) (hk : okY S) (a b c n : Int) (hp : paperP a b c) (hn : 0 ≤ n ∧ n ≤ 20) (he : n * 24 ≤ dryL a b c S.2.2.1) (hr : S.2.2.2.length < 30) : zMet l yX2_pack cX2_pack 9 none 11 2 65 [vR sh.1, vI a, vR (g.2.2 b.toNat), vR (g.2.2 (3 + c.toNat)), vI n] g h (fun v h' => v = none ∧ ∃ sh' Ls', rX g.2.2 h (fpS sh (f, rc, Ls)) sh' (f, rc, Ls') h' ∧ tie f Ls' (pckS a b c n S)) := by
  refine zMet.mk (L0 := [some (vR sh.1), some (vI a), some (vR (g.2.2 b.toNat)), some (vR (g.2.2 (3 + c.toNat))), some (vI n), none, none, none, none]) (by decide) rfl (Nat.le_of_ble_eq_true rfl) rfl (fun C hg hl hnm X => ?_)
  subst hg hl
  have hX := w.start
  obtain ⟨T0, ⟨Tc, Tc2⟩, ⟨Tb, Tb1, Tb2⟩, ⟨Tv, Tv2⟩, ⟨Tm, Tm2⟩, ⟨Tp, Tp1, Tp2⟩, ⟨Tr, Tr1⟩, Ta, Tz⟩ := id T
  obtain ⟨⟨⟨kc1a, kc1b, kc1c, kc1d, kc1e⟩, kc2, kc3, kc4, kc5⟩, kb, kp, kq⟩ := id hk
  obtain ⟨Tl1, Tl4, Tl5⟩ := T.lens
  have z0 := T0 0 (by omega)
  have z1 := T0 1 (by omega)
  have z2 := T0 2 (by omega)
  have z3 := T0 3 (by omega)
  obtain ⟨hpa, hpb, hpc⟩ := id hp
  have hpl : ∀ p ∈ Ls 4, 0 ≤ p.2.2.2.2.1 := fun p hp => by have := Tp2 p hp; omega
  have hpr := pkR_r (a := a) (b := b) (c := c) (L := Ls 4) (l := 24 * n) (by omega) fun p hp => by
    have hm : p.2 ∈ S.2.2.1 := by rw [← Tp]; exact List.mem_map.mpr ⟨_, hp, rfl⟩
    exact (kp _ hm).2.2.2.1
  have hTl : (gnR (pkX a b c) pkW (24 * n) (Ls 4)).length = (Ls 4).length := gnR_len
  refine z_bipush (pc' := 2) X dX2_pack_0 rfl (by decide) ?_
  refine z_iload (pc' := 4) X dX2_pack_2 rfl rfl ?_
  refine z_imul (pc' := 5) X dX2_pack_4 rfl ?_
  refine z_istore (pc' := 7) X dX2_pack_5 rfl (by decide) rfl ?_
  dsimp only [List.set]
  refine z_iconst (pc' := 8) X dX2_pack_7 rfl ?_
  refine z_istore (pc' := 10) X dX2_pack_8 rfl (by decide) rfl ?_
  dsimp only [List.set]
  have loop10 : ∀ (N : Nat) (l k : Int) (h10l : GH), (0 ≤ k ∧ k ≤ ((Ls 4).length : Int)) → (rX (zg C).2.2 h (fpS sh (f, rc, Ls)) sh (f, rc, lup Ls 4 (mpK (gnR (pkX a b c) pkW (24 * n) (Ls 4)) (Ls 4) k.toNat)) h10l) → (l = gnL (pkX a b c) (24 * n) (Ls 4) k.toNat) → (0 ≤ l) → (l ≤ 24 * n) → (((Ls 4).length : Int) - k).toNat < N → ZP C 9 (zAt h10l) (0) (0) [some (vR sh.1), some (vI a), some (vR ((zg C).2.2 b.toNat)), some (vR ((zg C).2.2 (3 + c.toNat))), some (vI n), some (vI l), some (vI k), none, none] 10 [] := by
    intro N
    induction N with
    | zero => intro l k h10l hb hXl hl9 hl0 hl1 hN; exact absurd hN (Nat.not_lt_zero _)
    | succ N ih10 =>
      intro l k h10l hb hXl hl9 hl0 hl1 hN
      have hml : (mpK (gnR (pkX a b c) pkW (24 * n) (Ls 4)) (Ls 4) k.toNat).length = (Ls 4).length := mpK_len gnR_len
      refine z_iload (pc' := 12) X dX2_pack_10 rfl rfl ?_
      refine z_aload_n (pc' := 13) X dX2_pack_12 rfl rfl ?_
      refine z_get1 (pc' := 16) (kf := 15) X in_X2 rfl (by decide) q242 (Or.inl rfl) hXl.stA rfl dX2_pack_13 rfl ?_
      refine z_rsize (pc' := 21) X q547 hXl (i := 4) (by decide) dX2_pack_16 rfl (by decide) (Nat.le_of_ble_eq_true rfl) (by omega) (by omega) ?_
      rw [lup_s]
      refine z_icmp_ge (tgt := 103) (pc' := 24) X (by first | assumption | omega | exact bI_rng2) (by first | assumption | omega | exact bI_rng2) dX2_pack_21 rfl (by decide) (fun c21 => ?_) (fun c21 => ?_)
      · have hX103 : rX (zg C).2.2 h (fpS sh (f, rc, Ls)) sh (f, rc, (lup Ls 4 ((gnR (pkX a b c) pkW (24 * n) (Ls 4))))) h10l := by have t := hXl; rw [mpK_end gnR_len (by omega)] at t; exact t
        refine z_aload_n (pc' := 104) X dX2_pack_103 rfl rfl ?_
        refine z_get1 (pc' := 107) (kf := 15) X in_X2 rfl (by decide) q242 (Or.inl rfl) hX103.stA rfl dX2_pack_104 rfl ?_
        refine z_rsize (pc' := 112) X q547 hX103 (i := 4) (by decide) dX2_pack_107 rfl (by decide) (Nat.le_of_ble_eq_true rfl) (by omega) (by omega) ?_
        rw [lup_s]
        refine z_iconst (pc' := 113) X dX2_pack_112 rfl ?_
        refine z_isub (pc' := 114) X dX2_pack_113 rfl ?_
        refine z_istore (pc' := 116) X dX2_pack_114 rfl (by decide) rfl ?_
        dsimp only [List.set]
        have loop116 : ∀ (N : Nat) (k2 : Int) (h116l : GH), (-1 ≤ k2 ∧ k2 < ((gnR (pkX a b c) pkW (24 * n) (Ls 4)).length : Int)) → (rX (zg C).2.2 h (fpS sh (f, rc, Ls)) sh (f, rc, lup Ls 4 (dpK nzP (gnR (pkX a b c) pkW (24 * n) (Ls 4)) (k2 + 1).toNat)) h116l) → (k2 + 1).toNat < N → ZP C 9 (zAt h116l) (0) (0) [some (vR sh.1), some (vI a), some (vR ((zg C).2.2 b.toNat)), some (vR ((zg C).2.2 (3 + c.toNat))), some (vI n), none, some (vI k2), none, none] 116 [] := by
          intro N
          induction N with
          | zero => intro k2 h116l hb2 hX2l hN; exact absurd hN (Nat.not_lt_zero _)
          | succ N ih116 =>
            intro k2 h116l hb2 hX2l hN
            have hdl := dpK_len (zz := nzP) (L := (gnR (pkX a b c) pkW (24 * n) (Ls 4))) (k := (k2 + 1).toNat)
            have hdk : 0 ≤ k2 → k2 < ((dpK nzP (gnR (pkX a b c) pkW (24 * n) (Ls 4)) (k2 + 1).toNat).length : Int) := fun hh => dpK_lt ⟨hh, hb2.2⟩
            refine z_iload (pc' := 118) X dX2_pack_116 rfl rfl ?_
            refine z_if_lt (tgt := 159) (pc' := 121) X (by first | assumption | omega | exact bI_rng2) dX2_pack_118 rfl (by decide) (fun c118 => ?_) (fun c118 => ?_)
            · have hX159 : rX (zg C).2.2 h (fpS sh (f, rc, Ls)) sh (f, rc, (lup Ls 4 (((gnR (pkX a b c) pkW (24 * n) (Ls 4)).filter nzP)))) h116l := by have t := hX2l; rw [show (k2 + 1).toNat = 0 by omega] at t; exact t
              refine z_aload_n (pc' := 160) X dX2_pack_159 rfl rfl ?_
              refine z_get1 (pc' := 163) (kf := 16) X in_X2 rfl (by decide) q244 (Or.inl rfl) hX159.stA rfl dX2_pack_160 rfl ?_
              refine z_new1 (pc' := 166) X (ci := 9) (fs := [Value.null, Value.null, vI 0]) in_X12 tyX12 tyX12_ok q581 q1680 q148 rfl df_X12 dX2_pack_163 rfl (by omega) (by omega) (fun q1 h1 n1 e1 => ?_)
              have g1 := (congrFun e1 q1).trans hset_s
              have hX1 : rX (zg C).2.2 h (fpS sh (f, rc, Ls)) sh (f, rc, (lup Ls 4 (((gnR (pkX a b c) pkW (24 * n) (Ls 4)).filter nzP)))) h1 := by rw [e1]; exact hX159.new n1
              refine z_dup (pc' := 167) X rfl dX2_pack_166 rfl ?_
              refine z_aload_n (pc' := 168) X dX2_pack_167 rfl rfl ?_
              refine z_aload_n (pc' := 169) X dX2_pack_168 rfl rfl ?_
              refine z_iload (pc' := 171) X dX2_pack_169 rfl rfl ?_
              refine z_callI1 (pc' := 174) X Y_X12_init q1681 dX2_pack_171 rfl (Nat.le_of_ble_eq_true rfl) (by omega) (by omega) rfl rfl (Nat.le_of_ble_eq_true rfl) (c_X12_init _ _ _ (q1) (((zg C).2.2 (b).toNat)) (((zg C).2.2 (3 + (c).toNat))) (n) g1) (fun v2 h2 p2 => ?_)
              obtain ⟨ev2, p2⟩ := p2
              subst ev2
              dsimp only [zst]
              have e2 := p2.trans (by rw [e1, hset_hset])
              have g2 := (congrFun e2 q1).trans hset_s
              have hX2 : rX (zg C).2.2 h (fpS sh (f, rc, Ls)) sh (f, rc, (lup Ls 4 (((gnR (pkX a b c) pkW (24 * n) (Ls 4)).filter nzP)))) h2 := by rw [e2]; exact hX159.new n1
              refine z_radd (pc' := 179) X q299 hX2 (i := 5) (by decide) (q := q1) (e := (b, c, n, 0, 0)) g2 (fun h => absurd h (by decide)) (fun h => absurd h (by decide)) (by show (Ls 5).length ≤ 40; omega) dX2_pack_174 rfl (by decide) (Nat.le_of_ble_eq_true rfl) (by omega) (by omega) (fun h3 ar3 hX3 hf3 => ?_)
              obtain ⟨arf3, harf3⟩ : ∃ x : Nat → Option Nat, x = aup sh.2.2 5 ar3 := ⟨_, rfl⟩
              have hZ3 : rX (zg C).2.2 h (fpS sh (f, rc, Ls)) (sh.1, sh.2.1, arf3) (f, rc, (lup (lup Ls 4 (((gnR (pkX a b c) pkW (24 * n) (Ls 4)).filter nzP))) 5 (Ls 5 ++ [(q1, (b, c, n, 0, 0))]))) h3 := by rw [harf3]; exact hX3
              have fa4 := hX2.lsk (i := 5) (by decide) hf3 g2 (by decide)
              refine z_pop (pc' := 180) X rfl dX2_pack_179 rfl ?_
              refine z_ret1 X dX2_pack_180 (by omega) (by omega) ?_
              exact ⟨rfl, (sh.1, sh.2.1, arf3), _, hZ3, pack_tie T hk hn he hr⟩
            · refine z_aload_n (pc' := 122) X dX2_pack_121 rfl rfl ?_
              refine z_get1 (pc' := 125) (kf := 15) X in_X2 rfl (by decide) q242 (Or.inl rfl) hX2l.stA rfl dX2_pack_122 rfl ?_
              refine z_iload (pc' := 127) X dX2_pack_125 rfl rfl ?_
              obtain ⟨q5, e5, hk5⟩ := ELs.at (ps := (dpK nzP (gnR (pkX a b c) pkW (24 * n) (Ls 4)) (k2 + 1).toNat)) (k := k2) (by first | assumption | omega | exact bI_rng2)
              have hL5 : (gnR (pkX a b c) pkW (24 * n) (Ls 4))[k2.toNat]? = some (q5, e5) := (dpK_at ⟨by omega, hb2.2⟩).symm.trans hk5
              have hr5 : rng e5.2.2.2.1 := by obtain ⟨u1, u2⟩ := hpr _ (List.mem_of_getElem? hL5); unfold rng; dsimp only at u1 u2; omega
              refine z_rget (pc' := 132) X q549 hX2l (i := 4) (by decide) (j := k2) hk5 (by first | assumption | omega | exact bI_rng2) dX2_pack_127 rfl (by decide) (Nat.le_of_ble_eq_true rfl) (by omega) (by omega) (by show ((dpK nzP (gnR (pkX a b c) pkW (24 * n) (Ls 4)) (k2 + 1).toNat)).length ≤ 1000; omega) ?_
              refine z_castS1 (pc' := 135) X (ci := 8) q568 rfl ⟨_, (hX2l.el4 hk5)⟩ dX2_pack_132 rfl ?_
              refine z_get1 (pc' := 138) (kf := 3) X in_X10 rfl (by decide) q689 (Or.inl rfl) (hX2l.el4 hk5) rfl dX2_pack_135 rfl ?_
              refine z_if_ne (tgt := 153) (pc' := 141) X (by first | assumption | omega | exact bI_rng2) dX2_pack_138 rfl (by decide) (fun c138 => ?_) (fun c138 => ?_)
              · refine z_iinc (pc' := 156) X dX2_pack_153 rfl (by decide) rfl rfl ?_
                dsimp only [List.set]
                refine z_goto (tgt := 116) X dX2_pack_156 (by decide) ?_
                refine ZP.wk (L' := [some (vR sh.1), some (vI a), some (vR ((zg C).2.2 b.toNat)), some (vR ((zg C).2.2 (3 + c.toNat))), some (vI n), none, some (vI _), none, none]) (And.intro rfl (And.intro rfl (And.intro rfl (And.intro rfl (And.intro rfl (And.intro rfl (trivial))))))) ?_
                exact ZP.mono (Nat.le_of_ble_eq_true rfl) (Nat.le_of_ble_eq_true rfl) (ih116 _  h116l (by omega) (by rw [show k2 + -1 + 1 = k2 by omega, ← dpK_keep (by omega) hL5 (nzP_t c138)]; exact hX2l) (by omega))
              · refine z_aload_n (pc' := 142) X dX2_pack_141 rfl rfl ?_
                refine z_get1 (pc' := 145) (kf := 15) X in_X2 rfl (by decide) q242 (Or.inl rfl) hX2l.stA rfl dX2_pack_142 rfl ?_
                refine z_iload (pc' := 147) X dX2_pack_145 rfl rfl ?_
                refine z_rrem (pc' := 152) X q733 hX2l (i := 4) (by decide) (j := k2) hk5 (by first | assumption | omega | exact bI_rng2) dX2_pack_147 rfl (by decide) (Nat.le_of_ble_eq_true rfl) (by omega) (by omega) (fun h6 hX6 hf6 hr6 => ?_)
                rw [lup_lup] at hX6
                have hZ6 : rX (zg C).2.2 h (fpS sh (f, rc, Ls)) sh (f, rc, (lup Ls 4 (((dpK nzP (gnR (pkX a b c) pkW (24 * n) (Ls 4)) (k2 + 1).toNat)).eraseIdx (k2).toNat))) h6 := hX6
                have hq6 := hX2l.rmel (i := 4) (by decide) hk5 hf6
                refine z_pop (pc' := 153) X rfl dX2_pack_152 rfl ?_
                refine z_iinc (pc' := 156) X dX2_pack_153 rfl (by decide) rfl rfl ?_
                dsimp only [List.set]
                refine z_goto (tgt := 116) X dX2_pack_156 (by decide) ?_
                refine ZP.wk (L' := [some (vR sh.1), some (vI a), some (vR ((zg C).2.2 b.toNat)), some (vR ((zg C).2.2 (3 + c.toNat))), some (vI n), none, some (vI _), none, none]) (And.intro rfl (And.intro rfl (And.intro rfl (And.intro rfl (And.intro rfl (And.intro rfl (trivial))))))) ?_
                exact ZP.mono (Nat.le_of_ble_eq_true rfl) (Nat.le_of_ble_eq_true rfl) (ih116 _  h6 (by omega) (by have t := hZ6; rw [dpK_er (by omega) hL5 (nzP_f (by omega))] at t; rw [show k2 + -1 + 1 = k2 by omega]; exact t) (by omega))
        refine ZP.wk (L' := [some (vR sh.1), some (vI a), some (vR ((zg C).2.2 b.toNat)), some (vR ((zg C).2.2 (3 + c.toNat))), some (vI n), none, some (vI _), none, none]) (And.intro rfl (And.intro rfl (And.intro rfl (And.intro rfl (And.intro rfl (And.intro rfl (trivial))))))) ?_
        exact ZP.mono (Nat.le_of_ble_eq_true rfl) (Nat.le_of_ble_eq_true rfl) (loop116 _ _  h10l (by omega) (by rw [show ((gnR (pkX a b c) pkW (24 * n) (Ls 4)).length : Int) - 1 + 1 = (gnR (pkX a b c) pkW (24 * n) (Ls 4)).length by omega, dpK_all (by omega)]; exact hX103) (Nat.lt_succ_self _))
      · refine z_iload (pc' := 26) X dX2_pack_24 rfl rfl ?_
        refine z_if_le (tgt := 103) (pc' := 29) X (by first | assumption | omega | exact bI_rng2) dX2_pack_26 rfl (by decide) (fun c26 => ?_) (fun c26 => ?_)
        · have hX103 : rX (zg C).2.2 h (fpS sh (f, rc, Ls)) sh (f, rc, (lup Ls 4 ((gnR (pkX a b c) pkW (24 * n) (Ls 4))))) h10l := by have t := hXl; rw [gnR_end (by omega) (pk_z hpl)] at t; exact t
          refine z_aload_n (pc' := 104) X dX2_pack_103 rfl rfl ?_
          refine z_get1 (pc' := 107) (kf := 15) X in_X2 rfl (by decide) q242 (Or.inl rfl) hX103.stA rfl dX2_pack_104 rfl ?_
          refine z_rsize (pc' := 112) X q547 hX103 (i := 4) (by decide) dX2_pack_107 rfl (by decide) (Nat.le_of_ble_eq_true rfl) (by omega) (by omega) ?_
          rw [lup_s]
          refine z_iconst (pc' := 113) X dX2_pack_112 rfl ?_
          refine z_isub (pc' := 114) X dX2_pack_113 rfl ?_
          refine z_istore (pc' := 116) X dX2_pack_114 rfl (by decide) rfl ?_
          dsimp only [List.set]
          have loop116 : ∀ (N : Nat) (k2 : Int) (h116l : GH), (-1 ≤ k2 ∧ k2 < ((gnR (pkX a b c) pkW (24 * n) (Ls 4)).length : Int)) → (rX (zg C).2.2 h (fpS sh (f, rc, Ls)) sh (f, rc, lup Ls 4 (dpK nzP (gnR (pkX a b c) pkW (24 * n) (Ls 4)) (k2 + 1).toNat)) h116l) → (k2 + 1).toNat < N → ZP C 9 (zAt h116l) (0) (0) [some (vR sh.1), some (vI a), some (vR ((zg C).2.2 b.toNat)), some (vR ((zg C).2.2 (3 + c.toNat))), some (vI n), none, some (vI k2), none, none] 116 [] := by
            intro N
            induction N with
            | zero => intro k2 h116l hb2 hX2l hN; exact absurd hN (Nat.not_lt_zero _)
            | succ N ih116 =>
              intro k2 h116l hb2 hX2l hN
              have hdl := dpK_len (zz := nzP) (L := (gnR (pkX a b c) pkW (24 * n) (Ls 4))) (k := (k2 + 1).toNat)
              have hdk : 0 ≤ k2 → k2 < ((dpK nzP (gnR (pkX a b c) pkW (24 * n) (Ls 4)) (k2 + 1).toNat).length : Int) := fun hh => dpK_lt ⟨hh, hb2.2⟩
              refine z_iload (pc' := 118) X dX2_pack_116 rfl rfl ?_
              refine z_if_lt (tgt := 159) (pc' := 121) X (by first | assumption | omega | exact bI_rng2) dX2_pack_118 rfl (by decide) (fun c118 => ?_) (fun c118 => ?_)
              · have hX159 : rX (zg C).2.2 h (fpS sh (f, rc, Ls)) sh (f, rc, (lup Ls 4 (((gnR (pkX a b c) pkW (24 * n) (Ls 4)).filter nzP)))) h116l := by have t := hX2l; rw [show (k2 + 1).toNat = 0 by omega] at t; exact t
                refine z_aload_n (pc' := 160) X dX2_pack_159 rfl rfl ?_
                refine z_get1 (pc' := 163) (kf := 16) X in_X2 rfl (by decide) q244 (Or.inl rfl) hX159.stA rfl dX2_pack_160 rfl ?_
                refine z_new1 (pc' := 166) X (ci := 9) (fs := [Value.null, Value.null, vI 0]) in_X12 tyX12 tyX12_ok q581 q1680 q148 rfl df_X12 dX2_pack_163 rfl (by omega) (by omega) (fun q7 h7 n7 e7 => ?_)
                have g7 := (congrFun e7 q7).trans hset_s
                have hX7 : rX (zg C).2.2 h (fpS sh (f, rc, Ls)) sh (f, rc, (lup Ls 4 (((gnR (pkX a b c) pkW (24 * n) (Ls 4)).filter nzP)))) h7 := by rw [e7]; exact hX159.new n7
                refine z_dup (pc' := 167) X rfl dX2_pack_166 rfl ?_
                refine z_aload_n (pc' := 168) X dX2_pack_167 rfl rfl ?_
                refine z_aload_n (pc' := 169) X dX2_pack_168 rfl rfl ?_
                refine z_iload (pc' := 171) X dX2_pack_169 rfl rfl ?_
                refine z_callI1 (pc' := 174) X Y_X12_init q1681 dX2_pack_171 rfl (Nat.le_of_ble_eq_true rfl) (by omega) (by omega) rfl rfl (Nat.le_of_ble_eq_true rfl) (c_X12_init _ _ _ (q7) (((zg C).2.2 (b).toNat)) (((zg C).2.2 (3 + (c).toNat))) (n) g7) (fun v8 h8 p8 => ?_)
                obtain ⟨ev8, p8⟩ := p8
                subst ev8
                dsimp only [zst]
                have e8 := p8.trans (by rw [e7, hset_hset])
                have g8 := (congrFun e8 q7).trans hset_s
                have hX8 : rX (zg C).2.2 h (fpS sh (f, rc, Ls)) sh (f, rc, (lup Ls 4 (((gnR (pkX a b c) pkW (24 * n) (Ls 4)).filter nzP)))) h8 := by rw [e8]; exact hX159.new n7
                refine z_radd (pc' := 179) X q299 hX8 (i := 5) (by decide) (q := q7) (e := (b, c, n, 0, 0)) g8 (fun h => absurd h (by decide)) (fun h => absurd h (by decide)) (by show (Ls 5).length ≤ 40; omega) dX2_pack_174 rfl (by decide) (Nat.le_of_ble_eq_true rfl) (by omega) (by omega) (fun h9 ar9 hX9 hf9 => ?_)
                obtain ⟨arf9, harf9⟩ : ∃ x : Nat → Option Nat, x = aup sh.2.2 5 ar9 := ⟨_, rfl⟩
                have hZ9 : rX (zg C).2.2 h (fpS sh (f, rc, Ls)) (sh.1, sh.2.1, arf9) (f, rc, (lup (lup Ls 4 (((gnR (pkX a b c) pkW (24 * n) (Ls 4)).filter nzP))) 5 (Ls 5 ++ [(q7, (b, c, n, 0, 0))]))) h9 := by rw [harf9]; exact hX9
                have fa10 := hX8.lsk (i := 5) (by decide) hf9 g8 (by decide)
                refine z_pop (pc' := 180) X rfl dX2_pack_179 rfl ?_
                refine z_ret1 X dX2_pack_180 (by omega) (by omega) ?_
                exact ⟨rfl, (sh.1, sh.2.1, arf9), _, hZ9, pack_tie T hk hn he hr⟩
              · refine z_aload_n (pc' := 122) X dX2_pack_121 rfl rfl ?_
                refine z_get1 (pc' := 125) (kf := 15) X in_X2 rfl (by decide) q242 (Or.inl rfl) hX2l.stA rfl dX2_pack_122 rfl ?_
                refine z_iload (pc' := 127) X dX2_pack_125 rfl rfl ?_
                obtain ⟨q11, e11, hk11⟩ := ELs.at (ps := (dpK nzP (gnR (pkX a b c) pkW (24 * n) (Ls 4)) (k2 + 1).toNat)) (k := k2) (by first | assumption | omega | exact bI_rng2)
                have hL11 : (gnR (pkX a b c) pkW (24 * n) (Ls 4))[k2.toNat]? = some (q11, e11) := (dpK_at ⟨by omega, hb2.2⟩).symm.trans hk11
                have hr11 : rng e11.2.2.2.1 := by obtain ⟨u1, u2⟩ := hpr _ (List.mem_of_getElem? hL11); unfold rng; dsimp only at u1 u2; omega
                refine z_rget (pc' := 132) X q549 hX2l (i := 4) (by decide) (j := k2) hk11 (by first | assumption | omega | exact bI_rng2) dX2_pack_127 rfl (by decide) (Nat.le_of_ble_eq_true rfl) (by omega) (by omega) (by show ((dpK nzP (gnR (pkX a b c) pkW (24 * n) (Ls 4)) (k2 + 1).toNat)).length ≤ 1000; omega) ?_
                refine z_castS1 (pc' := 135) X (ci := 8) q568 rfl ⟨_, (hX2l.el4 hk11)⟩ dX2_pack_132 rfl ?_
                refine z_get1 (pc' := 138) (kf := 3) X in_X10 rfl (by decide) q689 (Or.inl rfl) (hX2l.el4 hk11) rfl dX2_pack_135 rfl ?_
                refine z_if_ne (tgt := 153) (pc' := 141) X (by first | assumption | omega | exact bI_rng2) dX2_pack_138 rfl (by decide) (fun c138 => ?_) (fun c138 => ?_)
                · refine z_iinc (pc' := 156) X dX2_pack_153 rfl (by decide) rfl rfl ?_
                  dsimp only [List.set]
                  refine z_goto (tgt := 116) X dX2_pack_156 (by decide) ?_
                  refine ZP.wk (L' := [some (vR sh.1), some (vI a), some (vR ((zg C).2.2 b.toNat)), some (vR ((zg C).2.2 (3 + c.toNat))), some (vI n), none, some (vI _), none, none]) (And.intro rfl (And.intro rfl (And.intro rfl (And.intro rfl (And.intro rfl (And.intro rfl (trivial))))))) ?_
                  exact ZP.mono (Nat.le_of_ble_eq_true rfl) (Nat.le_of_ble_eq_true rfl) (ih116 _  h116l (by omega) (by rw [show k2 + -1 + 1 = k2 by omega, ← dpK_keep (by omega) hL11 (nzP_t c138)]; exact hX2l) (by omega))
                · refine z_aload_n (pc' := 142) X dX2_pack_141 rfl rfl ?_
                  refine z_get1 (pc' := 145) (kf := 15) X in_X2 rfl (by decide) q242 (Or.inl rfl) hX2l.stA rfl dX2_pack_142 rfl ?_
                  refine z_iload (pc' := 147) X dX2_pack_145 rfl rfl ?_
                  refine z_rrem (pc' := 152) X q733 hX2l (i := 4) (by decide) (j := k2) hk11 (by first | assumption | omega | exact bI_rng2) dX2_pack_147 rfl (by decide) (Nat.le_of_ble_eq_true rfl) (by omega) (by omega) (fun h12 hX12 hf12 hr12 => ?_)
                  rw [lup_lup] at hX12
                  have hZ12 : rX (zg C).2.2 h (fpS sh (f, rc, Ls)) sh (f, rc, (lup Ls 4 (((dpK nzP (gnR (pkX a b c) pkW (24 * n) (Ls 4)) (k2 + 1).toNat)).eraseIdx (k2).toNat))) h12 := hX12
                  have hq12 := hX2l.rmel (i := 4) (by decide) hk11 hf12
                  refine z_pop (pc' := 153) X rfl dX2_pack_152 rfl ?_
                  refine z_iinc (pc' := 156) X dX2_pack_153 rfl (by decide) rfl rfl ?_
                  dsimp only [List.set]
                  refine z_goto (tgt := 116) X dX2_pack_156 (by decide) ?_
                  refine ZP.wk (L' := [some (vR sh.1), some (vI a), some (vR ((zg C).2.2 b.toNat)), some (vR ((zg C).2.2 (3 + c.toNat))), some (vI n), none, some (vI _), none, none]) (And.intro rfl (And.intro rfl (And.intro rfl (And.intro rfl (And.intro rfl (And.intro rfl (trivial))))))) ?_
                  exact ZP.mono (Nat.le_of_ble_eq_true rfl) (Nat.le_of_ble_eq_true rfl) (ih116 _  h12 (by omega) (by have t := hZ12; rw [dpK_er (by omega) hL11 (nzP_f (by omega))] at t; rw [show k2 + -1 + 1 = k2 by omega]; exact t) (by omega))
          refine ZP.wk (L' := [some (vR sh.1), some (vI a), some (vR ((zg C).2.2 b.toNat)), some (vR ((zg C).2.2 (3 + c.toNat))), some (vI n), none, some (vI _), none, none]) (And.intro rfl (And.intro rfl (And.intro rfl (And.intro rfl (And.intro rfl (And.intro rfl (trivial))))))) ?_
          exact ZP.mono (Nat.le_of_ble_eq_true rfl) (Nat.le_of_ble_eq_true rfl) (loop116 _ _  h10l (by omega) (by rw [show ((gnR (pkX a b c) pkW (24 * n) (Ls 4)).length : Int) - 1 + 1 = (gnR (pkX a b c) pkW (24 * n) (Ls 4)).length by omega, dpK_all (by omega)]; exact hX103) (Nat.lt_succ_self _))
        · refine z_aload_n (pc' := 30) X dX2_pack_29 rfl rfl ?_
          refine z_get1 (pc' := 33) (kf := 15) X in_X2 rfl (by decide) q242 (Or.inl rfl) hXl.stA rfl dX2_pack_30 rfl ?_
          refine z_iload (pc' := 35) X dX2_pack_33 rfl rfl ?_
          obtain ⟨q13, e13, hk13⟩ := ELs.at (ps := (mpK (gnR (pkX a b c) pkW (24 * n) (Ls 4)) (Ls 4) k.toNat)) (k := k) (by first | assumption | omega | exact bI_rng2)
          have hL : (Ls 4)[k.toNat]? = some (q13, e13) := (mpK_at gnR_len (by omega)).symm.trans hk13
          have hT := gnR_at (X := pkX a b c) (W := pkW) (l := 24 * n) hb.1 hL
          obtain ⟨o1, o2, o3, o4, o5⟩ := T.pile hk hL
          have hxb := pkX_b (a := a) (b := b) (c := c) hl0 o4.1
          refine z_rget (pc' := 40) X q549 hXl (i := 4) (by decide) (j := k) hk13 (by first | assumption | omega | exact bI_rng2) dX2_pack_35 rfl (by decide) (Nat.le_of_ble_eq_true rfl) (by omega) (by omega) (by show ((mpK (gnR (pkX a b c) pkW (24 * n) (Ls 4)) (Ls 4) k.toNat)).length ≤ 1000; omega) ?_
          refine z_castS1 (pc' := 43) X (ci := 8) q568 rfl ⟨_, (hXl.el4 hk13)⟩ dX2_pack_40 rfl ?_
          refine z_astore (pc' := 45) X dX2_pack_43 rfl (by decide) rfl ?_
          dsimp only [List.set]
          refine z_aload (pc' := 47) X dX2_pack_45 rfl rfl ?_
          refine z_iload_n (pc' := 48) X dX2_pack_47 rfl rfl ?_
          refine z_aload_n (pc' := 49) X dX2_pack_48 rfl rfl ?_
          refine z_aload_n (pc' := 50) X dX2_pack_49 rfl rfl ?_
          refine z_callV0 (pc' := 53) X Y_X10_isDryOf q1668 dX2_pack_50 rfl (Nat.le_of_ble_eq_true rfl) (by omega) (by omega) rfl rfl (Nat.le_of_ble_eq_true rfl) rfl ⟨_, (hXl.el4 hk13)⟩ (c_X10_isDryOf _ _ _ (q13) (e13.1) (e13.2.1) (e13.2.2.1) (e13.2.2.2.1) (e13.2.2.2.2) (a) (b) (c) (hXl.el4 hk13) ⟨by omega, by omega, by omega⟩ ⟨by omega, by omega, by omega, by omega⟩) ?_
          dsimp only [zst]
          refine z_if_eq (tgt := 97) (pc' := 56) X (by first | assumption | omega | exact bI_rng2) dX2_pack_53 rfl (by decide) (fun c53 => ?_) (fun c53 => ?_)
          · refine z_iinc (pc' := 100) X dX2_pack_97 rfl (by decide) rfl rfl ?_
            dsimp only [List.set]
            refine z_goto (tgt := 10) X dX2_pack_100 (by decide) ?_
            refine ZP.wk (L' := [some (vR sh.1), some (vI a), some (vR ((zg C).2.2 b.toNat)), some (vR ((zg C).2.2 (3 + c.toNat))), some (vI n), some (vI _), some (vI _), none, none]) (And.intro rfl (And.intro rfl (And.intro rfl (And.intro rfl (And.intro rfl (And.intro rfl (And.intro rfl (trivial)))))))) ?_
            exact ZP.mono (Nat.le_of_ble_eq_true rfl) (Nat.le_of_ble_eq_true rfl) (ih10 _ _  h10l (by omega) (by rw [← mpK_same gnR_len hb.1 (hT.1.trans (by show some (_, pkW _ (pkX a b c _ _)) = _; rw [show pkX a b c _ _ = 0 from if_neg (bI_e0 c53)]; unfold pkW; rw [Int.sub_zero])) hL]; exact hXl) (by rw [hT.2, ← hl9, show pkX a b c l _ = 0 from if_neg (bI_e0 c53)]; omega) (by omega) (by omega) (by omega))
          · refine z_aload (pc' := 58) X dX2_pack_56 rfl rfl ?_
            refine z_get1 (pc' := 61) (kf := 3) X in_X10 rfl (by decide) q689 (Or.inl rfl) (hXl.el4 hk13) rfl dX2_pack_58 rfl ?_
            refine z_iload (pc' := 63) X dX2_pack_61 rfl rfl ?_
            refine z_icmp_ge (tgt := 74) (pc' := 66) X (by first | assumption | omega | exact bI_rng2) (by first | assumption | omega | exact bI_rng2) dX2_pack_63 rfl (by decide) (fun c63 => ?_) (fun c63 => ?_)
            · refine z_iload (pc' := 76) X dX2_pack_74 rfl rfl ?_
              refine z_istore (pc' := 78) X dX2_pack_76 rfl (by decide) rfl ?_
              dsimp only [List.set]
              refine z_aload (pc' := 80) X dX2_pack_78 rfl rfl ?_
              refine z_dup (pc' := 81) X rfl dX2_pack_80 rfl ?_
              refine z_get1 (pc' := 84) (kf := 3) X in_X10 rfl (by decide) q689 (Or.inl rfl) (hXl.el4 hk13) rfl dX2_pack_81 rfl ?_
              refine z_iload (pc' := 86) X dX2_pack_84 rfl rfl ?_
              refine z_isub (pc' := 87) X dX2_pack_86 rfl ?_
              refine z_put1 (pc' := 90) (kf := 3) X in_X10 tyX10 tyX10_ok nmX10 rfl (by decide) q689 (Or.inl rfl) rfl rfl rfl (Nat.le_of_ble_eq_true rfl) (hXl.el4 hk13) dX2_pack_87 rfl (fun h15 e15 => ?_)
              have hX15 : rX (zg C).2.2 h (fpS sh (f, rc, Ls)) sh (f, rc, (lup Ls 4 (((mpK (gnR (pkX a b c) pkW (24 * n) (Ls 4)) (Ls 4) k.toNat)).set (k).toNat (q13, (e13.1, e13.2.1, e13.2.2.1, (e13.2.2.2.1 - l), e13.2.2.2.2))))) h15 := by rw [e15]; have t := hXl.elem (i := 4) (e' := (e13.1, e13.2.1, e13.2.2.1, (e13.2.2.2.1 - l), e13.2.2.2.2)) (by decide) hk13 rfl; rw [lup_lup] at t; exact t
              have hk15 : (((mpK (gnR (pkX a b c) pkW (24 * n) (Ls 4)) (Ls 4) k.toNat)).set (k).toNat (q13, (e13.1, e13.2.1, e13.2.2.1, (e13.2.2.2.1 - l), e13.2.2.2.2)))[(k).toNat]? = some (q13, (e13.1, e13.2.1, e13.2.2.1, (e13.2.2.2.1 - l), e13.2.2.2.2)) := set_at hk13
              refine z_iload (pc' := 92) X dX2_pack_90 rfl rfl ?_
              refine z_iload (pc' := 94) X dX2_pack_92 rfl rfl ?_
              refine z_isub (pc' := 95) X dX2_pack_94 rfl ?_
              refine z_istore (pc' := 97) X dX2_pack_95 rfl (by decide) rfl ?_
              dsimp only [List.set]
              refine z_iinc (pc' := 100) X dX2_pack_97 rfl (by decide) rfl rfl ?_
              dsimp only [List.set]
              refine z_goto (tgt := 10) X dX2_pack_100 (by decide) ?_
              refine ZP.wk (L' := [some (vR sh.1), some (vI a), some (vR ((zg C).2.2 b.toNat)), some (vR ((zg C).2.2 (3 + c.toNat))), some (vI n), some (vI _), some (vI _), none, none]) (And.intro rfl (And.intro rfl (And.intro rfl (And.intro rfl (And.intro rfl (And.intro rfl (And.intro rfl (trivial)))))))) ?_
              exact ZP.mono (Nat.le_of_ble_eq_true rfl) (Nat.le_of_ble_eq_true rfl) (ih10 _ _  h15 (by omega) (by rw [← mpK_set gnR_len hb.1 (hT.1.trans (by rw [← hl9, show pkX a b c l _ = _ from (if_pos (bI_n0 c53)).trans (if_neg (Int.not_lt.mpr c63))]; try rfl))]; exact hX15) (by rw [hT.2, ← hl9, show pkX a b c l _ = _ from (if_pos (bI_n0 c53)).trans (if_neg (Int.not_lt.mpr c63))]) (by omega) (by omega) (by omega))
            · refine z_aload (pc' := 68) X dX2_pack_66 rfl rfl ?_
              refine z_get1 (pc' := 71) (kf := 3) X in_X10 rfl (by decide) q689 (Or.inl rfl) (hXl.el4 hk13) rfl dX2_pack_68 rfl ?_
              refine z_goto (tgt := 76) X dX2_pack_71 (by decide) ?_
              refine z_istore (pc' := 78) X dX2_pack_76 rfl (by decide) rfl ?_
              dsimp only [List.set]
              refine z_aload (pc' := 80) X dX2_pack_78 rfl rfl ?_
              refine z_dup (pc' := 81) X rfl dX2_pack_80 rfl ?_
              refine z_get1 (pc' := 84) (kf := 3) X in_X10 rfl (by decide) q689 (Or.inl rfl) (hXl.el4 hk13) rfl dX2_pack_81 rfl ?_
              refine z_iload (pc' := 86) X dX2_pack_84 rfl rfl ?_
              refine z_isub (pc' := 87) X dX2_pack_86 rfl ?_
              refine z_put1 (pc' := 90) (kf := 3) X in_X10 tyX10 tyX10_ok nmX10 rfl (by decide) q689 (Or.inl rfl) rfl rfl rfl (Nat.le_of_ble_eq_true rfl) (hXl.el4 hk13) dX2_pack_87 rfl (fun h16 e16 => ?_)
              have hX16 : rX (zg C).2.2 h (fpS sh (f, rc, Ls)) sh (f, rc, (lup Ls 4 (((mpK (gnR (pkX a b c) pkW (24 * n) (Ls 4)) (Ls 4) k.toNat)).set (k).toNat (q13, (e13.1, e13.2.1, e13.2.2.1, (e13.2.2.2.1 - e13.2.2.2.1), e13.2.2.2.2))))) h16 := by rw [e16]; have t := hXl.elem (i := 4) (e' := (e13.1, e13.2.1, e13.2.2.1, (e13.2.2.2.1 - e13.2.2.2.1), e13.2.2.2.2)) (by decide) hk13 rfl; rw [lup_lup] at t; exact t
              have hk16 : (((mpK (gnR (pkX a b c) pkW (24 * n) (Ls 4)) (Ls 4) k.toNat)).set (k).toNat (q13, (e13.1, e13.2.1, e13.2.2.1, (e13.2.2.2.1 - e13.2.2.2.1), e13.2.2.2.2)))[(k).toNat]? = some (q13, (e13.1, e13.2.1, e13.2.2.1, (e13.2.2.2.1 - e13.2.2.2.1), e13.2.2.2.2)) := set_at hk13
              refine z_iload (pc' := 92) X dX2_pack_90 rfl rfl ?_
              refine z_iload (pc' := 94) X dX2_pack_92 rfl rfl ?_
              refine z_isub (pc' := 95) X dX2_pack_94 rfl ?_
              refine z_istore (pc' := 97) X dX2_pack_95 rfl (by decide) rfl ?_
              dsimp only [List.set]
              refine z_iinc (pc' := 100) X dX2_pack_97 rfl (by decide) rfl rfl ?_
              dsimp only [List.set]
              refine z_goto (tgt := 10) X dX2_pack_100 (by decide) ?_
              refine ZP.wk (L' := [some (vR sh.1), some (vI a), some (vR ((zg C).2.2 b.toNat)), some (vR ((zg C).2.2 (3 + c.toNat))), some (vI n), some (vI _), some (vI _), none, none]) (And.intro rfl (And.intro rfl (And.intro rfl (And.intro rfl (And.intro rfl (And.intro rfl (And.intro rfl (trivial)))))))) ?_
              exact ZP.mono (Nat.le_of_ble_eq_true rfl) (Nat.le_of_ble_eq_true rfl) (ih10 _ _  h16 (by omega) (by rw [← mpK_set gnR_len hb.1 (hT.1.trans (by rw [← hl9, show pkX a b c l _ = _ from (if_pos (bI_n0 c53)).trans (if_pos c63)]; try rfl))]; exact hX16) (by rw [hT.2, ← hl9, show pkX a b c l _ = _ from (if_pos (bI_n0 c53)).trans (if_pos c63)]) (by omega) (by omega) (by omega))
  refine ZP.wk (L' := [some (vR sh.1), some (vI a), some (vR ((zg C).2.2 b.toNat)), some (vR ((zg C).2.2 (3 + c.toNat))), some (vI n), some (vI _), some (vI _), none, none]) (And.intro rfl (And.intro rfl (And.intro rfl (And.intro rfl (And.intro rfl (And.intro rfl (And.intro rfl (trivial)))))))) ?_
  exact ZP.mono (Nat.le_of_ble_eq_true rfl) (Nat.le_of_ble_eq_true rfl) (loop10 _ _ _  h (by omega) (by rw [show lup Ls 4 (mpK (gnR (pkX a b c) pkW (24 * n) (Ls 4)) (Ls 4) (Int.toNat 0)) = Ls from lup_self]; exact hX) gnL_0.symm (by omega) (Int.le_refl _) (Nat.lt_succ_self _))
theorem stamp_tie {f : Int → Int} {Ls : Nat → ELs} {S : St} {v t : Int} {q : Nat} {e : El} (T : tie f Ls S) (hv : 0 ≤ v ∧ v < 3) (hq : (Ls 2)[v.toNat]? = some (q, e)) : tie f (lup Ls 2 ((Ls 2).set v.toNat (q, (e.1, e.2.1 + t, e.2.2.1, e.2.2.2.1, e.2.2.2.2)))) (stpS v t S) := by
  have e0 := T.V.2 _ _ _ hq
  rw [Int.toNat_of_nonneg hv.1] at e0
  have TC := T.C
  have TV := T.V
  have TM := T.M
  obtain ⟨T0, -, TB, -, -, TP, TR, Ta, Tz⟩ := T
  refine ⟨fun j hj => by rw [T0 j hj]; exact (iup_n (by omega)).symm, TC.keep (fun j a b => iup_n (by omega)), TB, TV.set hv.1 ?_ ?_ ?_ (fun j a b c => iup_n (by omega)), TM.keep (fun j a b => iup_n (by omega)), TP, TR, ?_, Tz⟩
  · exact e0.1.trans (iup_n (by omega)).symm
  · show e.2.1 + t = _
    rw [e0.2.1]
    exact iup_s.symm
  · exact e0.2.2.trans (iup_n (by omega)).symm
  · rw [Ta]
    unfold unitsS stpS
    dsimp only
    rw [iup_n (by omega), iup_n (by omega), iup_n (by omega), iup_n (by omega)]
theorem Y_X2_stamp : zYV yX2_stamp cX2_stamp 4 (some .boolean) 2 := ⟨⟨q1307, q1308, q113, q1309⟩, by decide +kernel, by decide⟩
set_option maxRecDepth 100000 in
theorem c_X2_stamp (l : Launch) (g : zG) (h : GH) (sh : Sh) (f : Int → Int) (rc : Nat) (Ls : Nat → ELs) (S : St) (w : rW g.2.2 h sh (f, rc, Ls)) (T : tie f Ls S) (hk : okY S) (v t : Int) (hv : 0 ≤ v ∧ v < 3) (ht : 0 ≤ t ∧ t ≤ 1000) : zMet l yX2_stamp cX2_stamp 4 (some .boolean) 8 0 0 [vR sh.1, vI v, vI t] g h (fun r h' => r = some (vI (bI (S.1 (117 + 3 * v) ≠ 0 ∧ S.1 (117 + 3 * v + 1) + t ≤ 48))) ∧ ∃ Ls', rX g.2.2 h (fpS sh (f, rc, Ls)) sh (f, rc, Ls') h' ∧ tie f Ls' (if (S.1 (117 + 3 * v) ≠ 0 ∧ S.1 (117 + 3 * v + 1) + t ≤ 48) then stpS v t S else S)) := by
  refine zMet.mk (L0 := [some (vR sh.1), some (vI v), some (vI t), none]) (by decide) rfl (Nat.le_of_ble_eq_true rfl) rfl (fun C hg hl hnm X => ?_)
  subst hg hl
  have hX := w.start
  obtain ⟨T0, ⟨Tc, Tc2⟩, ⟨Tb, Tb1, Tb2⟩, ⟨Tv, Tv2⟩, ⟨Tm, Tm2⟩, ⟨Tp, Tp1, Tp2⟩, ⟨Tr, Tr1⟩, Ta, Tz⟩ := id T
  obtain ⟨⟨⟨kc1a, kc1b, kc1c, kc1d, kc1e⟩, kc2, kc3, kc4, kc5⟩, kb, kp, kq⟩ := id hk
  obtain ⟨Tl1, Tl4, Tl5⟩ := T.lens
  have z0 := T0 0 (by omega)
  have z1 := T0 1 (by omega)
  have z2 := T0 2 (by omega)
  have z3 := T0 3 (by omega)
  refine z_aload_n (pc' := 1) X dX2_stamp_0 rfl rfl ?_
  refine z_iload_n (pc' := 2) X dX2_stamp_1 rfl rfl ?_
  refine z_iload_n (pc' := 3) X dX2_stamp_2 rfl rfl ?_
  refine z_callV0 (pc' := 6) X Y_X2_canStamp q1310 dX2_stamp_3 rfl (Nat.le_of_ble_eq_true rfl) (Nat.le_of_ble_eq_true rfl) (Nat.le_of_ble_eq_true rfl) rfl rfl (Nat.le_of_ble_eq_true rfl) rfl ⟨_, hX.stA⟩ (c_X2_canStamp _ _ _ sh (f) rc (Ls) S hX.1 T hk (v) (t) (by first | assumption | omega | exact bI_rng2) (by first | assumption | omega | exact bI_rng2)) ?_
  dsimp only [zst]
  refine z_istore_n (pc' := 7) X dX2_stamp_6 rfl (by decide) rfl ?_
  dsimp only [List.set]
  refine z_iload_n (pc' := 8) X dX2_stamp_7 rfl rfl ?_
  refine z_if_eq (tgt := 33) (pc' := 11) X (by first | assumption | omega | exact bI_rng2) dX2_stamp_8 rfl (by decide) (fun c8 => ?_) (fun c8 => ?_)
  · refine z_iload_n (pc' := 34) X dX2_stamp_33 rfl rfl ?_
    refine z_zret1 X dX2_stamp_34 (by first | exact nar_0 | exact nar_1 | exact nar_bI _ | exact nar_b (by omega)) (Nat.le_of_ble_eq_true rfl) (Nat.le_of_ble_eq_true rfl) ?_
    exact ⟨rfl, Ls, hX, by rw [if_neg (bI_e0 c8)]; exact T⟩
  · refine z_aload_n (pc' := 12) X dX2_stamp_11 rfl rfl ?_
    refine z_get1 (pc' := 15) (kf := 13) X in_X2 rfl (by decide) q238 (Or.inl rfl) hX.stA rfl dX2_stamp_12 rfl ?_
    refine z_iload_n (pc' := 16) X dX2_stamp_15 rfl rfl ?_
    obtain ⟨q2, e2, hk2⟩ := ELs.at (ps := Ls 2) (k := v) (by first | assumption | omega | exact bI_rng2)
    have t2 := Tv2 _ _ _ hk2
    rw [Int.toNat_of_nonneg (by omega)] at t2
    have b2 := kc4 (v) (by omega) (by omega)
    refine z_rget (pc' := 21) X q549 hX (i := 2) (by decide) (j := v) hk2 (by first | assumption | omega | exact bI_rng2) dX2_stamp_16 rfl (by decide) (Nat.le_of_ble_eq_true rfl) (Nat.le_of_ble_eq_true rfl) (Nat.le_of_ble_eq_true rfl) (by show (Ls 2).length ≤ 1000; omega) ?_
    refine z_castS1 (pc' := 24) X (ci := 4) q380 rfl ⟨_, (hX.el2 hk2)⟩ dX2_stamp_21 rfl ?_
    refine z_dup (pc' := 25) X rfl dX2_stamp_24 rfl ?_
    refine z_get1 (pc' := 28) (kf := 1) X in_X5 rfl (by decide) q390 (Or.inl rfl) (hX.el2 hk2) rfl dX2_stamp_25 rfl ?_
    refine z_iload_n (pc' := 29) X dX2_stamp_28 rfl rfl ?_
    refine z_iadd (pc' := 30) X dX2_stamp_29 rfl ?_
    refine z_put1 (pc' := 33) (kf := 1) X in_X5 tyX5 tyX5_ok nmX5 rfl (by decide) q390 (Or.inl rfl) rfl rfl rfl (Nat.le_of_ble_eq_true rfl) (hX.el2 hk2) dX2_stamp_30 rfl (fun h3 e3 => ?_)
    have hX3 : rX (zg C).2.2 h (fpS sh (f, rc, Ls)) sh (f, rc, (lup Ls 2 ((Ls 2).set (v).toNat (q2, (e2.1, (e2.2.1 + t), e2.2.2.1, e2.2.2.2.1, e2.2.2.2.2))))) h3 := by rw [e3]; have t := hX.elem (i := 2) (e' := (e2.1, (e2.2.1 + t), e2.2.2.1, e2.2.2.2.1, e2.2.2.2.2)) (by decide) hk2 rfl; exact t
    have hk3 : ((Ls 2).set (v).toNat (q2, (e2.1, (e2.2.1 + t), e2.2.2.1, e2.2.2.2.1, e2.2.2.2.2)))[(v).toNat]? = some (q2, (e2.1, (e2.2.1 + t), e2.2.2.1, e2.2.2.2.1, e2.2.2.2.2)) := set_at hk2
    refine z_iload_n (pc' := 34) X dX2_stamp_33 rfl rfl ?_
    refine z_zret1 X dX2_stamp_34 (by first | exact nar_0 | exact nar_1 | exact nar_bI _ | exact nar_b (by omega)) (Nat.le_of_ble_eq_true rfl) (Nat.le_of_ble_eq_true rfl) ?_
    exact ⟨rfl, _, hX3, by rw [if_pos (bI_n0 c8)]; exact stamp_tie T hv hk2⟩
theorem okS_D {D D' P Q : Int} {S : St} (h : okS D P Q S) (hD : D ≤ D') : okS D' P Q S := by
  obtain ⟨⟨⟨a0, a1⟩, a2⟩, kb, kp, kq⟩ := h
  exact ⟨⟨⟨⟨a0.1, Int.le_trans a0.2 hD⟩, a1⟩, a2⟩, kb, fun b hb => ⟨(kp b hb).1, (kp b hb).2.1, (kp b hb).2.2.1, (kp b hb).2.2.2.1, (kp b hb).2.2.2.2.1, Int.le_trans (kp b hb).2.2.2.2.2 hD⟩, kq⟩
theorem Y_X2_pass : zYV yX2_pass cX2_pass 4 (some .boolean) 1 := ⟨⟨q1385, q1386, q113, q1387⟩, by decide +kernel, by decide⟩
set_option maxRecDepth 100000 in
theorem c_X2_pass (l : Launch) (g : zG) (h : GH) (sh : Sh) (f : Int → Int) (rc : Nat) (Ls : Nat → ELs) (S : St) (w : rW g.2.2 h sh (f, rc, Ls)) (T : tie f Ls S) (hk9 : okS 999 1000000 10000000 S) (n : Int) (hn : 0 ≤ n ∧ n ≤ 100) : zMet l yX2_pass cX2_pass 4 (some .boolean) 8 100 2400 [vR sh.1, vI n] g h (fun r h' => r = some (vI (bI (S.1 0 + n ≤ 999))) ∧ ∃ f' Ls', rX g.2.2 h (fpS sh (f, rc, Ls)) sh (f', rc, Ls') h' ∧ tie f' Ls' (if S.1 0 + n ≤ 999 then nightN n.toNat S else S) ∧ f' 202 = f 202 + (if S.1 0 + n ≤ 999 then nLostN n.toNat S else 0)) := by
  refine zMet.mk (L0 := [some (vR sh.1), some (vI n), none, none]) (by decide) rfl (Nat.le_of_ble_eq_true rfl) rfl (fun C hg hl hnm X => ?_)
  subst hg hl
  have hk : okY S := okS_D hk9 (by decide)
  have hX := w.start
  obtain ⟨T0, ⟨Tc, Tc2⟩, ⟨Tb, Tb1, Tb2⟩, ⟨Tv, Tv2⟩, ⟨Tm, Tm2⟩, ⟨Tp, Tp1, Tp2⟩, ⟨Tr, Tr1⟩, Ta, Tz⟩ := id T
  obtain ⟨⟨⟨kc1a, kc1b, kc1c, kc1d, kc1e⟩, kc2, kc3, kc4, kc5⟩, kb, kp, kq⟩ := id hk
  obtain ⟨Tl1, Tl4, Tl5⟩ := T.lens
  have z0 := T0 0 (by omega)
  have z1 := T0 1 (by omega)
  have z2 := T0 2 (by omega)
  have z3 := T0 3 (by omega)
  refine z_aload_n (pc' := 1) X dX2_pass_0 rfl rfl ?_
  refine z_iload_n (pc' := 2) X dX2_pass_1 rfl rfl ?_
  refine z_callV0 (pc' := 5) X Y_X2_canPass q1388 dX2_pass_2 rfl (Nat.le_of_ble_eq_true rfl) (by omega) (by omega) rfl rfl (Nat.le_of_ble_eq_true rfl) rfl ⟨_, hX.stA⟩ (c_X2_canPass _ _ _ sh (f) rc (Ls) S hX.1 T hk (n) (by first | assumption | omega | exact bI_rng2)) ?_
  dsimp only [zst]
  refine z_istore_n (pc' := 6) X dX2_pass_5 rfl (by decide) rfl ?_
  dsimp only [List.set]
  refine z_iconst (pc' := 7) X dX2_pass_6 rfl ?_
  refine z_istore_n (pc' := 8) X dX2_pass_7 rfl (by decide) rfl ?_
  dsimp only [List.set]
  have loop8 : ∀ (N : Nat) (k : Int) (f' : Int → Int) (Ls' : Nat → ELs) (h8l : GH), (0 ≤ k ∧ k ≤ n) → (rX (zg C).2.2 h (fpS sh (f, rc, Ls)) sh (f', rc, Ls') h8l) → (tie f' Ls' (nightN k.toNat S)) → (f' 202 = f 202 + nLostN k.toNat S) → (¬ S.1 0 + n ≤ 999 → k = 0) → (S.1 0 + n ≤ 999 → k ≤ n) → (n - k).toNat < N → ZP C 4 (zAt h8l) (k.toNat) (24 * k.toNat) [some (vR sh.1), some (vI n), some (vI (bI (S.1 0 + n ≤ 999))), some (vI k)] 8 [] := by
    intro N
    induction N with
    | zero => intro k f' Ls' h8l hb hXl hTl hlo hcz hcn hN; exact absurd hN (Nat.not_lt_zero _)
    | succ N ih8 =>
      intro k f' Ls' h8l hb hXl hTl hlo hcz hcn hN
      refine z_iload_n (pc' := 9) X dX2_pass_8 rfl rfl ?_
      refine z_iload_n (pc' := 10) X dX2_pass_9 rfl rfl ?_
      refine z_icmp_ge (tgt := 27) (pc' := 13) X (by first | assumption | omega | exact bI_rng2) (by first | assumption | omega | exact bI_rng2) dX2_pass_10 rfl (by decide) (fun c10 => ?_) (fun c10 => ?_)
      · refine z_iload_n (pc' := 28) X dX2_pass_27 rfl rfl ?_
        refine z_zret1 X dX2_pass_28 (by first | exact nar_0 | exact nar_1 | exact nar_bI _ | exact nar_b (by omega)) (by omega) (by omega) ?_
        by_cases hc : S.1 0 + n ≤ 999
        · exact ⟨rfl, f', Ls', hXl, by rw [if_pos hc, ← show k = n by have := hcn hc; omega]; exact hTl, by rw [if_pos hc, ← show k = n by have := hcn hc; omega]; exact hlo⟩
        · exact ⟨rfl, f', Ls', hXl, by rw [if_neg hc]; have t := hTl; rw [show k.toNat = 0 by have := hcz hc; omega] at t; exact t, by rw [if_neg hc]; have t := hlo; rw [show k.toNat = 0 by have := hcz hc; omega] at t; exact t⟩
      · refine z_iload_n (pc' := 14) X dX2_pass_13 rfl rfl ?_
        refine z_if_eq (tgt := 27) (pc' := 17) X (by first | assumption | omega | exact bI_rng2) dX2_pass_14 rfl (by decide) (fun c14 => ?_) (fun c14 => ?_)
        · refine z_iload_n (pc' := 28) X dX2_pass_27 rfl rfl ?_
          refine z_zret1 X dX2_pass_28 (by first | exact nar_0 | exact nar_1 | exact nar_bI _ | exact nar_b (by omega)) (by omega) (by omega) ?_
          have hc := bI_e0 c14
          exact ⟨rfl, f', Ls', hXl, by rw [if_neg hc]; have t := hTl; rw [show k.toNat = 0 by have := hcz hc; omega] at t; exact t, by rw [if_neg hc]; have t := hlo; rw [show k.toNat = 0 by have := hcz hc; omega] at t; exact t⟩
        · refine z_aload_n (pc' := 18) X dX2_pass_17 rfl rfl ?_
          refine z_callV1 (pc' := 21) X Y_X2_night q1392 dX2_pass_18 rfl (Nat.le_of_ble_eq_true rfl) (by omega) (by omega) rfl rfl (Nat.le_of_ble_eq_true rfl) rfl ⟨_, hXl.stA⟩ (c_X2_night _ _ _ sh (f') rc (Ls') (nightN k.toNat S) hXl.1 hTl (by exact okS_D (nightN_ok hk9 k.toNat) (by omega))) (fun v2 h2 p2 => ?_)
          obtain ⟨ev2, p2⟩ := p2
          subst ev2
          dsimp only [zst]
          obtain ⟨fn2, Ln2, px2, nt2, n52, n22⟩ := p2
          have hX2 : rX (zg C).2.2 h (fpS sh (f, rc, Ls)) sh (fn2, rc, Ln2) h2 := hXl.comp px2
          refine z_iinc (pc' := 24) X dX2_pass_21 rfl (by decide) rfl rfl ?_
          dsimp only [List.set]
          refine z_goto (tgt := 8) X dX2_pass_24 (by decide) ?_
          refine ZP.wk (L' := [some (vR sh.1), some (vI n), some (vI _), some (vI _)]) (And.intro rfl (And.intro rfl (And.intro rfl (And.intro rfl (trivial))))) ?_
          exact ZP.mono (by omega) (by omega) (ih8 _ fn2 Ln2 h2 (by omega) hX2 (by rw [show (k + 1).toNat = k.toNat + 1 by omega]; exact nt2) (by rw [n22, hlo, show (k + 1).toNat = k.toNat + 1 by omega]; exact Int.add_assoc _ _ _) (fun hh => absurd (bI_n0 c14) hh) (fun _ => by omega) (by omega))
  refine ZP.wk (L' := [some (vR sh.1), some (vI n), some (vI _), some (vI _)]) (And.intro rfl (And.intro rfl (And.intro rfl (And.intro rfl (trivial))))) ?_
  exact ZP.mono (by omega) (by omega) (loop8 _ _ f Ls h (by omega) hX T (Int.add_zero _).symm (fun _ => rfl) (fun _ => by omega) (Nat.lt_succ_self _))
end ZS8
