/-! THE STATE: begun, copied -/
section ZSTATE2
section
variable {C : ZC} {cc : ByteArray} {own : String} {nL : Nat} {ret : Option FieldType} {d mc ms : Nat} {post : Option Value → GH → Prop} {k n : Nat} {L : List (Option Value)} {pc pc' : Nat} {st : List Value} {h1 : GH}
theorem z_callIN0 (X : zX C cc own nL ret d mc ms post) {y : MethodName} {cy : ByteArray} {mL N idx dy b : Nat} {vs st0 : List Value} {host : String} {v : Option Value} (Y : zYI y cy mL N) (hq : Cond.methodLinkNest own idx y host ∈ lw_tbl) (hd : decode cc pc = .ok (.invokespecial idx, 3)) (hn : pc + 3 = pc') (hdd : dy + 1 ≤ d) (hk : k ≤ mc) (hm : n ≤ ms) (hst : st0 = vs.reverse ++ vR b :: st) (hlen : vs.length = N) (hcat : (st.map fun v => v.category).sum ≤ 8)
    (hM : zPur C.2.1 y cy mL none dy (vR b :: vs) (zg C) h1 v) (kk : ZP C nL (zAt h1) k n L pc' (zst v st)) : ZP C nL (zAt h1) k n L pc st0 :=
  z_callIN1 (mcy := 0) (msy := 0) X Y hq hd hn hdd hk hm hst hlen hcat hM fun v' h2 hp => by rw [hp.1, hp.2]; exact kk
end
theorem rX.born {b : Nat → Nat} {h h1 h2 : GH} {q : Nat} {c : zE} {sh : Sh} {R : RS} (n : h q = none) (e : h1 = hset h q c) (a : rX b h1 (fun x => x = q) sh R h2) : rX b h noF sh R h2 := by
  have h01 : hF h noF h1 := by rw [e]; exact hF.new hF.rf n
  refine ⟨a.1, h01.trans a.2.1 (fun x hx => Or.inr (by rw [show x = q from hx]; exact n)), fun x hx => Or.inr ?_⟩
  rcases a.2.2 x hx with t | t
  · rw [show x = q from t]; exact n
  · exact h01.1 x t
theorem rX.congrF {b : Nat → Nat} {h0 h : GH} {F : Nat → Prop} {sh : Sh} {f f' : Int → Int} {rc : Nat} {Ls : Nat → ELs} (a : rX b h0 F sh (f', rc, Ls) h) (e : ∀ j, ((0 ≤ j ∧ j ≤ 3) ∨ (7 ≤ j ∧ j ≤ 12) ∨ (201 ≤ j ∧ j ≤ 205)) → f' j = f j) : rX b h0 F sh (f, rc, Ls) h := by
  have es : stF sh f' rc = stF sh f rc := by
    unfold stF
    rw [e 0 (by omega), e 1 (by omega), e 2 (by omega), e 3 (by omega), e 7 (by omega), e 201 (by omega), e 202 (by omega), e 203 (by omega), e 204 (by omega), e 205 (by omega)]
  obtain ⟨⟨h1, h2, h3, h4, h5, h6, h7⟩, hf, hp⟩ := a
  refine ⟨⟨?_, h2, h3, h4, h5, h6, h7.congr (fun j u v => (e _ (by omega)).symm) (e 12 (by omega)).symm⟩, hf, hp⟩
  show h sh.1 = some (zO 1 (stF sh f rc))
  rw [← es]
  exact h1
theorem rg_step {ps : ELs} {q : Nat} {e : El} {E : Nat → El} {k : Int} (h : ps.map Prod.snd = (List.range k.toNat).map E) (h0 : 0 ≤ k) (he : e = E k.toNat) : (ps ++ [(q, e)]).map Prod.snd = (List.range (k + 1).toNat).map E := by
  rw [show (k + 1).toNat = k.toNat + 1 by omega, List.range_succ, List.map_append, List.map_append, h, he]
  rfl
theorem rg_len {ps : ELs} {E : Nat → El} {k : Int} (h : ps.map Prod.snd = (List.range k.toNat).map E) : ps.length = k.toNat := by
  have := congrArg List.length h
  simpa using this
theorem tk_step {ps cs : ELs} {q q0 : Nat} {e : El} {k : Int} (h : cs.map Prod.snd = (ps.take k.toNat).map Prod.snd) (h0 : 0 ≤ k) (he : ps[k.toNat]? = some (q0, e)) : (cs ++ [(q, e)]).map Prod.snd = (ps.take (k + 1).toNat).map Prod.snd := by
  rw [show (k + 1).toNat = k.toNat + 1 by omega, List.take_succ, he, List.map_append, List.map_append, h]
  rfl
theorem tk_len {ps cs : ELs} {k : Int} (h : cs.map Prod.snd = (ps.take k.toNat).map Prod.snd) (h1 : k ≤ (ps.length : Int)) : cs.length = k.toNat := by
  have := congrArg List.length h
  rw [List.length_map, List.length_map, List.length_take] at this
  omega
theorem tk_all {ps cs : ELs} {k : Int} (h : cs.map Prod.snd = (ps.take k.toNat).map Prod.snd) (h1 : (ps.length : Int) ≤ k) : cs.map Prod.snd = ps.map Prod.snd := by
  rw [h, List.take_of_length_le (by omega)]
def eCar (_ : Nat) : El := (0, -1, 0, 0, 0)
def eVat (_ : Nat) : El := (0, 0, 0, 0, 0)
def eMou (j : Nat) : El := ((j : Int) % 3, (j : Int), 0, 0, 0)
theorem Y_X2_begin : zYS yX2_begin cX2_begin 2 (some (.object "PaperMill$State")) 0 := ⟨⟨q163, q113, q164⟩, by decide +kernel, by decide⟩
set_option maxRecDepth 100000 in
theorem c_X2_begin (l : Launch) (g : zG) (h : GH)  : zMet l yX2_begin cX2_begin 2 (some (.object "PaperMill$State")) 11 32 794 [] g h (fun v h' => ∃ q : Nat, v = some (vR q) ∧ ∃ (sh : Sh) (rc : Nat) (Ls : Nat → ELs), sh.1 = q ∧ rX g.2.2 h noF sh (fI, rc, Ls) h' ∧ (Ls 0).map Prod.snd = (List.range 4).map eCar ∧ (Ls 2).map Prod.snd = (List.range 3).map eVat ∧ (Ls 3).map Prod.snd = (List.range 5).map eMou ∧ Ls 1 = [] ∧ Ls 4 = [] ∧ Ls 5 = []) := by
  refine zMet.mk (L0 := [none, none]) (by decide) rfl (Nat.le_of_ble_eq_true rfl) rfl (fun C hg hl hnm X => ?_)
  subst hg hl
  refine z_new1 (pc' := 3) X (ci := 1) (fs := [vI 0, vI 0, vI 0, vI 0, Value.null, vI 0, vI 0, vI 0, vI 0, vI 0, vI 0, Value.null, Value.null, Value.null, Value.null, Value.null, Value.null]) in_X2 tyX2 tyX2_ok q165 q166 q113 rfl df_X2 dX2_begin_0 rfl (by omega) (by omega) (fun q1 h1 n1 e1 => ?_)
  have g1 := (congrFun e1 q1).trans hset_s
  refine z_dup (pc' := 4) X rfl dX2_begin_3 rfl ?_
  refine z_callI1 (pc' := 7) X Y_X2_init q167 dX2_begin_4 rfl (Nat.le_of_ble_eq_true rfl) (by omega) (by omega) rfl rfl (Nat.le_of_ble_eq_true rfl) (c_X2_init _ _ _ (q1) g1) (fun v2 h2 p2 => ?_)
  obtain ⟨ev2, p2⟩ := p2
  subst ev2
  dsimp only [zst]
  obtain ⟨⟨A2, LL2, AR2⟩, rc2, ha2, hx2⟩ := p2
  rw [show A2 = q1 from ha2] at hx2
  have hX2 := rX.born n1 e1 hx2
  refine z_astore_n (pc' := 8) X dX2_begin_7 rfl (by decide) rfl ?_
  dsimp only [List.set]
  refine z_iconst (pc' := 9) X dX2_begin_8 rfl ?_
  refine z_istore_n (pc' := 10) X dX2_begin_9 rfl (by decide) rfl ?_
  dsimp only [List.set]
  have loop10 : ∀ (N : Nat) (k10 : Int) (ar10 : Nat → Option Nat) (ps10 : ELs) (h10l : GH), (0 ≤ k10 ∧ k10 ≤ 4) → (rX (zg C).2.2 h noF (q1, LL2, ar10) (fI, rc2, lup (fun _ => []) 0 ps10) h10l) → (ps10.map Prod.snd = (List.range k10.toNat).map eCar) → (4 - k10).toNat < N → ZP C 2 (zAt h10l) (8 + 2 * k10.toNat) (37 + 62 * k10.toNat) [some (vR q1), some (vI k10)] 10 [] := by
    intro N
    induction N with
    | zero => intro k10 ar10 ps10 h10l hk10 hX10l hs10 hN; exact absurd hN (Nat.not_lt_zero _)
    | succ N ih10 =>
      intro k10 ar10 ps10 h10l hk10 hX10l hs10 hN
      have hl10 := rg_len hs10
      refine z_iload_n (pc' := 11) X dX2_begin_10 rfl rfl ?_
      refine z_iconst (pc' := 12) X dX2_begin_11 rfl ?_
      refine z_icmp_ge (tgt := 38) (pc' := 15) X (by first | assumption | omega) (by first | assumption | omega) dX2_begin_12 rfl (by decide) (fun c12 => ?_) (fun c12 => ?_)
      · refine z_iconst (pc' := 39) X dX2_begin_38 rfl ?_
        refine z_istore_n (pc' := 40) X dX2_begin_39 rfl (by decide) rfl ?_
        dsimp only [List.set]
        have loop40 : ∀ (N : Nat) (k40 : Int) (ar40 : Nat → Option Nat) (ps40 : ELs) (h40l : GH), (0 ≤ k40 ∧ k40 ≤ 3) → (rX (zg C).2.2 h noF (q1, LL2, ar40) (fI, rc2, lup (lup (fun _ => []) 0 ps10) 2 ps40) h40l) → (ps40.map Prod.snd = (List.range k40.toNat).map eVat) → (3 - k40).toNat < N → ZP C 2 (zAt h40l) (16 + 2 * k40.toNat) (285 + 63 * k40.toNat) [some (vR q1), some (vI k40)] 40 [] := by
          intro N
          induction N with
          | zero => intro k40 ar40 ps40 h40l hk40 hX40l hs40 hN; exact absurd hN (Nat.not_lt_zero _)
          | succ N ih40 =>
            intro k40 ar40 ps40 h40l hk40 hX40l hs40 hN
            have hl40 := rg_len hs40
            refine z_iload_n (pc' := 41) X dX2_begin_40 rfl rfl ?_
            refine z_iconst (pc' := 42) X dX2_begin_41 rfl ?_
            refine z_icmp_ge (tgt := 68) (pc' := 45) X (by first | assumption | omega) (by first | assumption | omega) dX2_begin_42 rfl (by decide) (fun c42 => ?_) (fun c42 => ?_)
            · refine z_iconst (pc' := 69) X dX2_begin_68 rfl ?_
              refine z_istore_n (pc' := 70) X dX2_begin_69 rfl (by decide) rfl ?_
              dsimp only [List.set]
              have loop70 : ∀ (N : Nat) (k70 : Int) (ar70 : Nat → Option Nat) (ps70 : ELs) (h70l : GH), (0 ≤ k70 ∧ k70 ≤ 5) → (rX (zg C).2.2 h noF (q1, LL2, ar70) (fI, rc2, lup (lup (lup (fun _ => []) 0 ps10) 2 ps40) 3 ps70) h70l) → (ps70.map Prod.snd = (List.range k70.toNat).map eMou) → (5 - k70).toNat < N → ZP C 2 (zAt h70l) (22 + 2 * k70.toNat) (474 + 64 * k70.toNat) [some (vR q1), some (vI k70)] 70 [] := by
                intro N
                induction N with
                | zero => intro k70 ar70 ps70 h70l hk70 hX70l hs70 hN; exact absurd hN (Nat.not_lt_zero _)
                | succ N ih70 =>
                  intro k70 ar70 ps70 h70l hk70 hX70l hs70 hN
                  have hl70 := rg_len hs70
                  refine z_iload_n (pc' := 71) X dX2_begin_70 rfl rfl ?_
                  refine z_iconst (pc' := 72) X dX2_begin_71 rfl ?_
                  refine z_icmp_ge (tgt := 105) (pc' := 75) X (by first | assumption | omega) (by first | assumption | omega) dX2_begin_72 rfl (by decide) (fun c72 => ?_) (fun c72 => ?_)
                  · refine z_aload_n (pc' := 106) X dX2_begin_105 rfl rfl ?_
                    refine z_aret1 X (Or.inl ⟨_, rfl⟩) dX2_begin_106 (by omega) (by omega) ?_
                    have k10e : k10 = 4 := by omega
                    have k40e : k40 = 3 := by omega
                    have k70e : k70 = 5 := by omega
                    rw [k10e] at hs10
                    rw [k40e] at hs40
                    rw [k70e] at hs70
                    exact ⟨q1, rfl, (q1, LL2, ar70), rc2, _, rfl, hX70l, hs10, hs40, hs70, rfl, rfl, rfl⟩
                  · refine z_aload_n (pc' := 76) X dX2_begin_75 rfl rfl ?_
                    refine z_get1 (pc' := 79) (kf := 14) X in_X2 rfl (by decide) q240 (Or.inl rfl) hX70l.stA rfl dX2_begin_76 rfl ?_
                    refine z_new1 (pc' := 82) X (ci := 5) (fs := [Value.null, vI 0, vI 0, vI 0]) in_X6 tyX6 tyX6_ok q402 q403 q124 rfl df_X6 dX2_begin_79 rfl (by omega) (by omega) (fun q3 h3 n3 e3 => ?_)
                    have g3 := (congrFun e3 q3).trans hset_s
                    have hX3 : rX (zg C).2.2 h noF (q1, LL2, ar70) (fI, rc2, (lup (lup (lup (fun _ => []) 0 ps10) 2 ps40) 3 (ps70))) h3 := by rw [e3]; exact hX70l.new n3
                    refine z_dup (pc' := 83) X rfl dX2_begin_82 rfl ?_
                    refine z_iload_n (pc' := 84) X dX2_begin_83 rfl rfl ?_
                    refine z_iload_n (pc' := 85) X dX2_begin_84 rfl rfl ?_
                    refine z_iconst (pc' := 86) X dX2_begin_85 rfl ?_
                    refine z_iremp (pc' := 87) X (by first | assumption | omega) (by decide) dX2_begin_86 rfl ?_
                    refine z_callS0 (pc' := 90) X Y_X7_of q404 dX2_begin_87 rfl (Nat.le_of_ble_eq_true rfl) (by omega) (by omega) rfl rfl (Nat.le_of_ble_eq_true rfl) (c_X7_of _ _ _ ((k70 % 3)) (by omega)) ?_
                    dsimp only [zst]
                    refine z_callI1 (pc' := 93) X Y_X6_init q413 dX2_begin_90 rfl (Nat.le_of_ble_eq_true rfl) (by omega) (by omega) rfl rfl (Nat.le_of_ble_eq_true rfl) (c_X6_init _ _ _ (q3) (((zg C).2.2 ((k70 % 3)).toNat)) (k70) g3) (fun v5 h5 p5 => ?_)
                    obtain ⟨ev5, p5⟩ := p5
                    subst ev5
                    dsimp only [zst]
                    have e5 := p5.trans (by rw [e3, hset_hset])
                    have g5 := (congrFun e5 q3).trans hset_s
                    have hX5 : rX (zg C).2.2 h noF (q1, LL2, ar70) (fI, rc2, (lup (lup (lup (fun _ => []) 0 ps10) 2 ps40) 3 (ps70))) h5 := by rw [e5]; exact hX70l.new n3
                    refine z_radd (pc' := 98) X q299 hX5 (i := 3) (by decide) (q := q3) (e := (k70 % 3, k70, 0, 0, 0)) g5 (fun _ => hX70l.fresh n3 (by decide)) (fun _ => Or.inr (hX70l.2.1.1 _ n3)) (by show (ps70).length ≤ 40; omega) dX2_begin_93 rfl (by decide) (Nat.le_of_ble_eq_true rfl) (by omega) (by omega) (fun h6 ar6 hX6 hf6 => ?_)
                    rw [lup_lup] at hX6
                    obtain ⟨arf6, harf6⟩ : ∃ x : Nat → Option Nat, x = aup ar70 3 ar6 := ⟨_, rfl⟩
                    have hZ6 : rX (zg C).2.2 h noF (q1, LL2, arf6) (fI, rc2, (lup (lup (lup (fun _ => []) 0 ps10) 2 ps40) 3 (ps70 ++ [(q3, (k70 % 3, k70, 0, 0, 0))]))) h6 := by rw [harf6]; exact hX6
                    have fa7 := hX5.lsk (i := 3) (by decide) hf6 g5 (by decide)
                    refine z_pop (pc' := 99) X rfl dX2_begin_98 rfl ?_
                    refine z_iinc (pc' := 102) X dX2_begin_99 rfl (by decide) rfl rfl ?_
                    dsimp only [List.set]
                    refine z_goto (tgt := 70) X dX2_begin_102 (by decide) ?_
                    refine ZP.wk (L' := [some (vR q1), some (vI _)]) (And.intro rfl (And.intro rfl (trivial))) ?_
                    exact ZP.mono (by omega) (by omega) (ih70 _ arf6 _ h6 (by omega) hZ6 (rg_step hs70 hk70.1 (by show ((k70 % 3 : Int), k70, (0 : Int), (0 : Int), (0 : Int)) = _; unfold eMou; rw [Int.toNat_of_nonneg hk70.1])) (by omega))
              refine ZP.wk (L' := [some (vR q1), some (vI _)]) (And.intro rfl (And.intro rfl (trivial))) ?_
              exact ZP.mono (by omega) (by omega) (loop70 _ _ ar40 _ h40l (by decide) (by have t := hX40l; rw [← lup_self (L := (lup (lup (fun _ => []) 0 ps10) 2 ps40)) (i := 3)] at t; exact t) rfl (Nat.lt_succ_self _))
            · refine z_aload_n (pc' := 46) X dX2_begin_45 rfl rfl ?_
              refine z_get1 (pc' := 49) (kf := 13) X in_X2 rfl (by decide) q238 (Or.inl rfl) hX40l.stA rfl dX2_begin_46 rfl ?_
              refine z_new1 (pc' := 52) X (ci := 4) (fs := [vI 0, vI 0, vI 0]) in_X5 tyX5 tyX5_ok q380 q381 q123 rfl df_X5 dX2_begin_49 rfl (by omega) (by omega) (fun q8 h8 n8 e8 => ?_)
              have g8 := (congrFun e8 q8).trans hset_s
              have hX8 : rX (zg C).2.2 h noF (q1, LL2, ar40) (fI, rc2, (lup (lup (fun _ => []) 0 ps10) 2 (ps40))) h8 := by rw [e8]; exact hX40l.new n8
              refine z_dup (pc' := 53) X rfl dX2_begin_52 rfl ?_
              refine z_callIN0 (pc' := 56) X Y_X5_init q382 dX2_begin_53 rfl (Nat.le_of_ble_eq_true rfl) (by omega) (by omega) rfl rfl (Nat.le_of_ble_eq_true rfl) (c_X5_init _ _ _ (q8)) ?_
              dsimp only [zst]
              refine z_radd (pc' := 61) X q299 hX8 (i := 2) (by decide) (q := q8) (e := (0, 0, 0, 0, 0)) g8 (fun _ => hX40l.fresh n8 (by decide)) (fun _ => Or.inr (hX40l.2.1.1 _ n8)) (by show (ps40).length ≤ 40; omega) dX2_begin_56 rfl (by decide) (Nat.le_of_ble_eq_true rfl) (by omega) (by omega) (fun h10 ar10 hX10 hf10 => ?_)
              rw [lup_lup] at hX10
              obtain ⟨arf10, harf10⟩ : ∃ x : Nat → Option Nat, x = aup ar40 2 ar10 := ⟨_, rfl⟩
              have hZ10 : rX (zg C).2.2 h noF (q1, LL2, arf10) (fI, rc2, (lup (lup (fun _ => []) 0 ps10) 2 (ps40 ++ [(q8, (0, 0, 0, 0, 0))]))) h10 := by rw [harf10]; exact hX10
              have fa11 := hX8.lsk (i := 2) (by decide) hf10 g8 (by decide)
              refine z_pop (pc' := 62) X rfl dX2_begin_61 rfl ?_
              refine z_iinc (pc' := 65) X dX2_begin_62 rfl (by decide) rfl rfl ?_
              dsimp only [List.set]
              refine z_goto (tgt := 40) X dX2_begin_65 (by decide) ?_
              refine ZP.wk (L' := [some (vR q1), some (vI _)]) (And.intro rfl (And.intro rfl (trivial))) ?_
              exact ZP.mono (by omega) (by omega) (ih40 _ arf10 _ h10 (by omega) hZ10 (rg_step hs40 hk40.1 rfl) (by omega))
        refine ZP.wk (L' := [some (vR q1), some (vI _)]) (And.intro rfl (And.intro rfl (trivial))) ?_
        exact ZP.mono (by omega) (by omega) (loop40 _ _ ar10 _ h10l (by decide) (by have t := hX10l; rw [← lup_self (L := (lup (fun _ => []) 0 ps10)) (i := 2)] at t; exact t) rfl (Nat.lt_succ_self _))
      · refine z_aload_n (pc' := 16) X dX2_begin_15 rfl rfl ?_
        refine z_get1 (pc' := 19) (kf := 11) X in_X2 rfl (by decide) q234 (Or.inl rfl) hX10l.stA rfl dX2_begin_16 rfl ?_
        refine z_new1 (pc' := 22) X (ci := 3) (fs := [vI 0, vI 0]) in_X4 tyX4 tyX4_ok q281 q282 q118 rfl df_X4 dX2_begin_19 rfl (by omega) (by omega) (fun q12 h12 n12 e12 => ?_)
        have g12 := (congrFun e12 q12).trans hset_s
        have hX12 : rX (zg C).2.2 h noF (q1, LL2, ar10) (fI, rc2, (lup (fun _ => []) 0 (ps10))) h12 := by rw [e12]; exact hX10l.new n12
        refine z_dup (pc' := 23) X rfl dX2_begin_22 rfl ?_
        refine z_callIN1 (pc' := 26) X Y_X4_init q283 dX2_begin_23 rfl (Nat.le_of_ble_eq_true rfl) (by omega) (by omega) rfl rfl (Nat.le_of_ble_eq_true rfl) (c_X4_init _ _ _ (q12)  g12) (fun v13 h13 p13 => ?_)
        obtain ⟨ev13, p13⟩ := p13
        subst ev13
        dsimp only [zst]
        have e13 := p13.trans (by rw [e12, hset_hset])
        have g13 := (congrFun e13 q12).trans hset_s
        have hX13 : rX (zg C).2.2 h noF (q1, LL2, ar10) (fI, rc2, (lup (fun _ => []) 0 (ps10))) h13 := by rw [e13]; exact hX10l.new n12
        refine z_radd (pc' := 31) X q299 hX13 (i := 0) (by decide) (q := q12) (e := (0, -1, 0, 0, 0)) g13 (fun _ => hX10l.fresh n12 (by decide)) (fun _ => Or.inr (hX10l.2.1.1 _ n12)) (by show (ps10).length ≤ 40; omega) dX2_begin_26 rfl (by decide) (Nat.le_of_ble_eq_true rfl) (by omega) (by omega) (fun h14 ar14 hX14 hf14 => ?_)
        rw [lup_lup] at hX14
        obtain ⟨arf14, harf14⟩ : ∃ x : Nat → Option Nat, x = aup ar10 0 ar14 := ⟨_, rfl⟩
        have hZ14 : rX (zg C).2.2 h noF (q1, LL2, arf14) (fI, rc2, (lup (fun _ => []) 0 (ps10 ++ [(q12, (0, -1, 0, 0, 0))]))) h14 := by rw [harf14]; exact hX14
        have fa15 := hX13.lsk (i := 0) (by decide) hf14 g13 (by decide)
        refine z_pop (pc' := 32) X rfl dX2_begin_31 rfl ?_
        refine z_iinc (pc' := 35) X dX2_begin_32 rfl (by decide) rfl rfl ?_
        dsimp only [List.set]
        refine z_goto (tgt := 10) X dX2_begin_35 (by decide) ?_
        refine ZP.wk (L' := [some (vR q1), some (vI _)]) (And.intro rfl (And.intro rfl (trivial))) ?_
        exact ZP.mono (by omega) (by omega) (ih10 _ arf14 _ h14 (by omega) hZ14 (rg_step hs10 hk10.1 rfl) (by omega))
  refine ZP.wk (L' := [some (vR q1), some (vI _)]) (And.intro rfl (And.intro rfl (trivial))) ?_
  exact ZP.mono (by omega) (by omega) (loop10 _ _ AR2 _ h2 (by decide) (by have t := hX2; rw [← lup_self (L := (fun _ => [])) (i := 0)] at t; exact t) rfl (Nat.lt_succ_self _))
end ZSTATE2
