/-! THE MODEL: the text's reader: numbers, terms, brackets -/
section M18
def nFst (tx : List Int) (lo hi p : Int) : Prop := ((if 0 < lo then 1 else 0) ≤ tS tx p - 48 ∧ tS tx p - 48 ≤ 9) ∧ tS tx p - 48 ≤ hi
def nGo (tx : List Int) (hi : Int) : Nat → Int → Int → Int × Int
  | 0, v, p => (v, p)
  | n + 1, v, p => if (0 < v ∧ 48 ≤ tS tx p ∧ tS tx p ≤ 57) ∧ 10 * v + tS tx p - 48 ≤ hi then nGo tx hi n (10 * v + tS tx p - 48) (p + 1) else (v, p)
theorem nGo_x {tx : List Int} {hi : Int} : ∀ {n : Nat} {v p : Int}, ¬ ((0 < v ∧ 48 ≤ tS tx p ∧ tS tx p ≤ 57) ∧ 10 * v + tS tx p - 48 ≤ hi) → nGo tx hi n v p = (v, p)
  | 0, _, _, _ => rfl
  | _ + 1, _, _, h => if_neg h
theorem nGo_s {tx : List Int} {hi : Int} {n : Nat} {v p : Int} (h : (0 < v ∧ 48 ≤ tS tx p ∧ tS tx p ≤ 57) ∧ 10 * v + tS tx p - 48 ≤ hi) : nGo tx hi (n + 1) v p = nGo tx hi n (10 * v + tS tx p - 48) (p + 1) := if_pos h
def nR (tx : List Int) (hi p : Int) : Int × Int := nGo tx hi 61 (tS tx p - 48) (p + 1)
theorem mset_t {M : MM} {r : Nat} {k a b : Int} : mset (mset M r k a) r k b = mset M r k b := by
  funext q j
  by_cases hq : q = r
  · subst hq
    by_cases hj : j = k
    · subst hj; rw [mset_s, mset_s]
    · rw [mset_k hj, mset_k hj, mset_k hj]
  · rw [mset_r hq, mset_r hq, mset_r hq]
theorem Y_X8_isNumber : zYV yX8_isNumber cX8_isNumber 6 (some .boolean) 3 := ⟨⟨q2655, qs109, q132, q2656⟩, by decide +kernel, by decide⟩
set_option maxRecDepth 100000 in
theorem c_X8_isNumber (l : Launch) (g : zG) (ma : Nat → Nat) (M : MM) (k lo hi p : Int) (tx : List Int) (ht : tRep M tx) (hp : M 0 5 = p ∧ 0 ≤ p ∧ p ≤ tx.length) (hk : ∀ c ∈ tx, 32 ≤ c ∧ c ≤ 126) (hlo : 0 ≤ lo ∧ lo ≤ 1000) (hhi : 0 ≤ hi ∧ hi ≤ 1000) (hm : 0 ≤ M 0 6 ∧ M 0 6 ≤ 30) (hkk : 0 ≤ k ∧ k < 6) : mInt l yX8_isNumber cX8_isNumber 6 (some .boolean) 2 [vR (ma 0), vI k, vI lo, vI hi] g ma M (fun r M' => (¬ nFst tx lo hi p ∧ r = 0 ∧ M' = M) ∨ (nFst tx lo hi p ∧ M' = mset (mset M 0 5 (nR tx hi p).2) 8 (6 * M 0 6 + k) (nR tx hi p).1 ∧ ((r = 1 ∧ lo ≤ (nR tx hi p).1) ∨ (r = 0 ∧ ¬ lo ≤ (nR tx hi p).1)))) := by
  refine mInt.mk (L0 := [some (vR (ma 0)), some (vI k), some (vI lo), some (vI hi), none, none]) (by decide) rfl (Nat.le_of_ble_eq_true rfl) rfl (fun C h hg hl hR X => ?_)
  subst hg hl
  obtain ⟨hp1, hp2⟩ := hp
  have hl2 := ht.1
  have hl3 := ht.2.1
  have htb := tS_b hk hp2.1
  refine z_aload_n (pc' := 1) X dX8_isNumber_0 rfl rfl ?_
  refine z_V_fun0 (pc' := 4) X rfl Y_X8_sign q2626 dX8_isNumber_1 rfl (by decide) (Nat.le_refl _) (Nat.le_refl _) (Nat.le_of_ble_eq_true rfl) (c_X8_sign _ _ _ M p tx ht ⟨hp1, hp2⟩ hk) (fun r1 hr1 hp1 => ?_)
  subst hp1
  refine z_bipush (pc' := 6) X dX8_isNumber_4 rfl (by decide) ?_
  refine z_isub (pc' := 7) X dX8_isNumber_6 rfl ?_
  refine z_istore (pc' := 9) X dX8_isNumber_7 rfl (by decide) rfl ?_
  dsimp only [List.set]
  refine z_iload (pc' := 11) X dX8_isNumber_9 rfl rfl ?_
  refine z_iload_n (pc' := 12) X dX8_isNumber_11 rfl rfl ?_
  refine z_if_le (tgt := 19) (pc' := 15) X (by first | assumption | omega) dX8_isNumber_12 rfl (by decide) (fun c12 => ?_) (fun c12 => ?_)
  · refine z_iconst (pc' := 20) X dX8_isNumber_19 rfl ?_
    refine z_bipush (pc' := 22) X dX8_isNumber_20 rfl (by decide) ?_
    refine z_S_fun3 (pc' := 25) X Y_X8_in q2123 dX8_isNumber_22 rfl (by decide) (Nat.le_refl _) (Nat.le_refl _) (Nat.le_of_ble_eq_true rfl) (fun h _ => c_X8_in _ _ _ _ _ _ (by first | assumption | omega) (by first | assumption | omega) (by first | assumption | omega)) (fun r22 hr22 hp22 => ?_)
    have e22 : (if 0 < lo then (1 : Int) else 0) = (if 0 < lo then 1 else 0) := rfl
    refine z_if_eq (tgt := 34) (pc' := 28) X (by first | assumption | omega) dX8_isNumber_25 rfl (by decide) (fun c25 => ?_) (fun c25 => ?_)
    · refine z_iconst (pc' := 35) X dX8_isNumber_34 rfl ?_
      refine z_zreturn X dX8_isNumber_35 (by first | exact nar_0 | exact nar_1 | exact nar_b (by omega)) (Nat.le_refl _) (Nat.le_refl _) (fun _ hh => ⟨_, hh, _, rfl, ?_, ?_⟩)
      · first | assumption | omega
      · refine Or.inl ⟨fun q => ?_, rfl, rfl⟩
        unfold nFst at q
        first
          | (rw [if_pos (by omega)] at q; omega)
          | (rw [if_neg (by omega)] at q; omega)
          | omega
    · refine z_iload (pc' := 30) X dX8_isNumber_28 rfl rfl ?_
      refine z_iload_n (pc' := 31) X dX8_isNumber_30 rfl rfl ?_
      refine z_icmp_le (tgt := 36) (pc' := 34) X (by first | assumption | omega) (by first | assumption | omega) dX8_isNumber_31 rfl (by decide) (fun c31 => ?_) (fun c31 => ?_)
      · refine z_iload (pc' := 38) X dX8_isNumber_36 rfl rfl ?_
        refine z_istore (pc' := 40) X dX8_isNumber_38 rfl (by decide) rfl ?_
        dsimp only [List.set]
        refine z_aload_n (pc' := 41) X dX8_isNumber_40 rfl rfl ?_
        refine z_dup (pc' := 42) X rfl dX8_isNumber_41 rfl ?_
        have hv42 := hR 0 5
        refine z_mget (pc' := 45) X 12 rfl (by decide) q2075 rfl dX8_isNumber_42 rfl ?_
        rw [hp1]
        rw [hp1] at hv42
        refine z_iconst (pc' := 46) X dX8_isNumber_45 rfl ?_
        refine z_iadd (pc' := 47) X dX8_isNumber_46 rfl ?_
        refine z_mput (pc' := 50) X 12 5 rfl (by decide) q2075 rfl rfl rfl (by first | assumption | omega) dX8_isNumber_47 rfl (fun hR47 => ?_)
        have loop50 : ∀ (N : Nat) (v q : Int) (n : Nat), (0 ≤ v ∧ v ≤ 1000) → (0 ≤ q ∧ q ≤ tx.length) → (nGo tx hi n v q = nR tx hi p) → ((tx.length : Int) - q ≤ n) → n < N → ZP C 6 (mF ma h (mset M 0 5 q)) 0 0 [some (vR (ma 0)), some (vI k), some (vI lo), some (vI hi), some (vI (tS tx p - 48)), some (vI v)] 50 [] := by
          intro N
          induction N with
          | zero => intro v q n hvv hq hg hn hN; exact absurd hN (Nat.not_lt_zero _)
          | succ N ih50 =>
            intro v q n hvv hq hg hn hN
            refine ZP.fact (P := mR (mset M 0 5 q)) (fun _ h => h.1.2.2.2) (fun hR50 => ?_)
            have hbq := tS_b hk hq.1
            refine z_iload (pc' := 52) X dX8_isNumber_50 rfl rfl ?_
            refine z_if_le (tgt := 114) (pc' := 55) X (by first | assumption | omega) dX8_isNumber_52 rfl (by decide) (fun c52 => ?_) (fun c52 => ?_)
            · have ex : nR tx hi p = (v, q) := by
                rw [← hg]
                exact nGo_x (fun x => by omega)
              refine z_aload_n (pc' := 115) X dX8_isNumber_114 rfl rfl ?_
              refine z_iload_n (pc' := 116) X dX8_isNumber_115 rfl rfl ?_
              refine z_iload (pc' := 118) X dX8_isNumber_116 rfl rfl ?_
              refine z_V_void2 (pc' := 121) X rfl Y_X8_isTold q2610 dX8_isNumber_118 rfl (by decide) (Nat.le_refl _) (Nat.le_refl _) (Nat.le_of_ble_eq_true rfl) (c_X8_isTold _ _ _ _ k _ hkk (by first | assumption | omega) (by rw [mset_k (by decide)]; exact hm)) (fun M118 hp118 hR118 => ?_)
              rw [told5] at hp118
              subst hp118
              refine z_iload (pc' := 123) X dX8_isNumber_121 rfl rfl ?_
              refine z_iload_n (pc' := 124) X dX8_isNumber_123 rfl rfl ?_
              refine z_icmp_lt (tgt := 131) (pc' := 127) X (by first | assumption | omega) (by first | assumption | omega) dX8_isNumber_124 rfl (by decide) (fun c124 => ?_) (fun c124 => ?_)
              · refine z_iconst (pc' := 132) X dX8_isNumber_131 rfl ?_
                refine z_zreturn X dX8_isNumber_132 (by first | exact nar_0 | exact nar_1 | exact nar_b (by omega)) (Nat.le_refl _) (Nat.le_refl _) (fun _ hh => ⟨_, hh, _, rfl, ?_, ?_⟩)
                · first | assumption | omega
                · have ef : nFst tx lo hi p := by
                    unfold nFst
                    first
                      | (rw [if_pos (by omega)]; omega)
                      | (rw [if_neg (by omega)]; omega)
                  rw [ex]
                  exact Or.inr ⟨ef, rfl, by omega⟩
              · refine z_iconst (pc' := 128) X dX8_isNumber_127 rfl ?_
                refine z_goto (tgt := 132) X dX8_isNumber_128 (by decide) ?_
                refine z_zreturn X dX8_isNumber_132 (by first | exact nar_0 | exact nar_1 | exact nar_b (by omega)) (Nat.le_refl _) (Nat.le_refl _) (fun _ hh => ⟨_, hh, _, rfl, ?_, ?_⟩)
                · first | assumption | omega
                · have ef : nFst tx lo hi p := by
                    unfold nFst
                    first
                      | (rw [if_pos (by omega)]; omega)
                      | (rw [if_neg (by omega)]; omega)
                  rw [ex]
                  exact Or.inr ⟨ef, rfl, by omega⟩
            · refine z_aload_n (pc' := 56) X dX8_isNumber_55 rfl rfl ?_
              refine z_V_fun0 (pc' := 59) X rfl Y_X8_sign q2626 dX8_isNumber_56 rfl (by decide) (Nat.le_refl _) (Nat.le_refl _) (Nat.le_of_ble_eq_true rfl) (c_X8_sign _ _ _ _ (q) tx (ht.num (by decide)) ⟨mset_s, by omega, by omega⟩ hk) (fun r56 hr56 hp56 => ?_)
              subst hp56
              refine z_bipush (pc' := 61) X dX8_isNumber_59 rfl (by decide) ?_
              refine z_bipush (pc' := 63) X dX8_isNumber_61 rfl (by decide) ?_
              refine z_S_fun3 (pc' := 66) X Y_X8_in q2123 dX8_isNumber_63 rfl (by decide) (Nat.le_refl _) (Nat.le_refl _) (Nat.le_of_ble_eq_true rfl) (fun h _ => c_X8_in _ _ _ _ _ _ (by first | assumption | omega) (by first | assumption | omega) (by first | assumption | omega)) (fun r63 hr63 hp63 => ?_)
              refine z_if_eq (tgt := 114) (pc' := 69) X (by first | assumption | omega) dX8_isNumber_66 rfl (by decide) (fun c66 => ?_) (fun c66 => ?_)
              · have ex : nR tx hi p = (v, q) := by
                  rw [← hg]
                  exact nGo_x (fun x => by omega)
                refine z_aload_n (pc' := 115) X dX8_isNumber_114 rfl rfl ?_
                refine z_iload_n (pc' := 116) X dX8_isNumber_115 rfl rfl ?_
                refine z_iload (pc' := 118) X dX8_isNumber_116 rfl rfl ?_
                refine z_V_void2 (pc' := 121) X rfl Y_X8_isTold q2610 dX8_isNumber_118 rfl (by decide) (Nat.le_refl _) (Nat.le_refl _) (Nat.le_of_ble_eq_true rfl) (c_X8_isTold _ _ _ _ k _ hkk (by first | assumption | omega) (by rw [mset_k (by decide)]; exact hm)) (fun M118 hp118 hR118 => ?_)
                rw [told5] at hp118
                subst hp118
                refine z_iload (pc' := 123) X dX8_isNumber_121 rfl rfl ?_
                refine z_iload_n (pc' := 124) X dX8_isNumber_123 rfl rfl ?_
                refine z_icmp_lt (tgt := 131) (pc' := 127) X (by first | assumption | omega) (by first | assumption | omega) dX8_isNumber_124 rfl (by decide) (fun c124 => ?_) (fun c124 => ?_)
                · refine z_iconst (pc' := 132) X dX8_isNumber_131 rfl ?_
                  refine z_zreturn X dX8_isNumber_132 (by first | exact nar_0 | exact nar_1 | exact nar_b (by omega)) (Nat.le_refl _) (Nat.le_refl _) (fun _ hh => ⟨_, hh, _, rfl, ?_, ?_⟩)
                  · first | assumption | omega
                  · have ef : nFst tx lo hi p := by
                      unfold nFst
                      first
                        | (rw [if_pos (by omega)]; omega)
                        | (rw [if_neg (by omega)]; omega)
                    rw [ex]
                    exact Or.inr ⟨ef, rfl, by omega⟩
                · refine z_iconst (pc' := 128) X dX8_isNumber_127 rfl ?_
                  refine z_goto (tgt := 132) X dX8_isNumber_128 (by decide) ?_
                  refine z_zreturn X dX8_isNumber_132 (by first | exact nar_0 | exact nar_1 | exact nar_b (by omega)) (Nat.le_refl _) (Nat.le_refl _) (fun _ hh => ⟨_, hh, _, rfl, ?_, ?_⟩)
                  · first | assumption | omega
                  · have ef : nFst tx lo hi p := by
                      unfold nFst
                      first
                        | (rw [if_pos (by omega)]; omega)
                        | (rw [if_neg (by omega)]; omega)
                    rw [ex]
                    exact Or.inr ⟨ef, rfl, by omega⟩
              · refine z_bipush (pc' := 71) X dX8_isNumber_69 rfl (by decide) ?_
                refine z_iload (pc' := 73) X dX8_isNumber_71 rfl rfl ?_
                refine z_imul (pc' := 74) X dX8_isNumber_73 rfl ?_
                refine z_aload_n (pc' := 75) X dX8_isNumber_74 rfl rfl ?_
                refine z_V_fun0 (pc' := 78) X rfl Y_X8_sign q2626 dX8_isNumber_75 rfl (by decide) (Nat.le_refl _) (Nat.le_refl _) (Nat.le_of_ble_eq_true rfl) (c_X8_sign _ _ _ _ (q) tx (ht.num (by decide)) ⟨mset_s, by omega, by omega⟩ hk) (fun r75 hr75 hp75 => ?_)
                subst hp75
                refine z_iadd (pc' := 79) X dX8_isNumber_78 rfl ?_
                refine z_bipush (pc' := 81) X dX8_isNumber_79 rfl (by decide) ?_
                refine z_isub (pc' := 82) X dX8_isNumber_81 rfl ?_
                refine z_iload_n (pc' := 83) X dX8_isNumber_82 rfl rfl ?_
                refine z_icmp_gt (tgt := 114) (pc' := 86) X (by first | assumption | omega) (by first | assumption | omega) dX8_isNumber_83 rfl (by decide) (fun c83 => ?_) (fun c83 => ?_)
                · have ex : nR tx hi p = (v, q) := by
                    rw [← hg]
                    exact nGo_x (fun x => by omega)
                  refine z_aload_n (pc' := 115) X dX8_isNumber_114 rfl rfl ?_
                  refine z_iload_n (pc' := 116) X dX8_isNumber_115 rfl rfl ?_
                  refine z_iload (pc' := 118) X dX8_isNumber_116 rfl rfl ?_
                  refine z_V_void2 (pc' := 121) X rfl Y_X8_isTold q2610 dX8_isNumber_118 rfl (by decide) (Nat.le_refl _) (Nat.le_refl _) (Nat.le_of_ble_eq_true rfl) (c_X8_isTold _ _ _ _ k _ hkk (by first | assumption | omega) (by rw [mset_k (by decide)]; exact hm)) (fun M118 hp118 hR118 => ?_)
                  rw [told5] at hp118
                  subst hp118
                  refine z_iload (pc' := 123) X dX8_isNumber_121 rfl rfl ?_
                  refine z_iload_n (pc' := 124) X dX8_isNumber_123 rfl rfl ?_
                  refine z_icmp_lt (tgt := 131) (pc' := 127) X (by first | assumption | omega) (by first | assumption | omega) dX8_isNumber_124 rfl (by decide) (fun c124 => ?_) (fun c124 => ?_)
                  · refine z_iconst (pc' := 132) X dX8_isNumber_131 rfl ?_
                    refine z_zreturn X dX8_isNumber_132 (by first | exact nar_0 | exact nar_1 | exact nar_b (by omega)) (Nat.le_refl _) (Nat.le_refl _) (fun _ hh => ⟨_, hh, _, rfl, ?_, ?_⟩)
                    · first | assumption | omega
                    · have ef : nFst tx lo hi p := by
                        unfold nFst
                        first
                          | (rw [if_pos (by omega)]; omega)
                          | (rw [if_neg (by omega)]; omega)
                      rw [ex]
                      exact Or.inr ⟨ef, rfl, by omega⟩
                  · refine z_iconst (pc' := 128) X dX8_isNumber_127 rfl ?_
                    refine z_goto (tgt := 132) X dX8_isNumber_128 (by decide) ?_
                    refine z_zreturn X dX8_isNumber_132 (by first | exact nar_0 | exact nar_1 | exact nar_b (by omega)) (Nat.le_refl _) (Nat.le_refl _) (fun _ hh => ⟨_, hh, _, rfl, ?_, ?_⟩)
                    · first | assumption | omega
                    · have ef : nFst tx lo hi p := by
                        unfold nFst
                        first
                          | (rw [if_pos (by omega)]; omega)
                          | (rw [if_neg (by omega)]; omega)
                      rw [ex]
                      exact Or.inr ⟨ef, rfl, by omega⟩
                · refine z_bipush (pc' := 88) X dX8_isNumber_86 rfl (by decide) ?_
                  refine z_iload (pc' := 90) X dX8_isNumber_88 rfl rfl ?_
                  refine z_imul (pc' := 91) X dX8_isNumber_90 rfl ?_
                  refine z_aload_n (pc' := 92) X dX8_isNumber_91 rfl rfl ?_
                  refine z_V_fun0 (pc' := 95) X rfl Y_X8_sign q2626 dX8_isNumber_92 rfl (by decide) (Nat.le_refl _) (Nat.le_refl _) (Nat.le_of_ble_eq_true rfl) (c_X8_sign _ _ _ _ (q) tx (ht.num (by decide)) ⟨mset_s, by omega, by omega⟩ hk) (fun r92 hr92 hp92 => ?_)
                  subst hp92
                  refine z_iadd (pc' := 96) X dX8_isNumber_95 rfl ?_
                  refine z_bipush (pc' := 98) X dX8_isNumber_96 rfl (by decide) ?_
                  refine z_isub (pc' := 99) X dX8_isNumber_98 rfl ?_
                  refine z_istore (pc' := 101) X dX8_isNumber_99 rfl (by decide) rfl ?_
                  dsimp only [List.set]
                  refine z_aload_n (pc' := 102) X dX8_isNumber_101 rfl rfl ?_
                  refine z_dup (pc' := 103) X rfl dX8_isNumber_102 rfl ?_
                  have hv103 := hR50 0 5
                  refine z_mget (pc' := 106) X 12 rfl (by decide) q2075 rfl dX8_isNumber_103 rfl ?_
                  rw [mset_s]
                  rw [mset_s] at hv103
                  refine z_iconst (pc' := 107) X dX8_isNumber_106 rfl ?_
                  refine z_iadd (pc' := 108) X dX8_isNumber_107 rfl ?_
                  refine z_mput (pc' := 111) X 12 5 rfl (by decide) q2075 rfl rfl rfl (by first | assumption | omega) dX8_isNumber_108 rfl (fun hR108 => ?_)
                  refine z_goto (tgt := 50) X dX8_isNumber_111 (by decide) ?_
                  have hql := tS_lt (tx := tx) (p := q) (by omega)
                  obtain ⟨m, rfl⟩ : ∃ m, n = m + 1 := ⟨n - 1, by omega⟩
                  rw [nGo_s ⟨⟨by omega, by omega, by omega⟩, by omega⟩] at hg
                  rw [mset_t]
                  refine ZP.wk (L' := [some (vR (ma 0)), some (vI k), some (vI lo), some (vI hi), some (vI (tS tx p - 48)), some (vI _)]) (And.intro rfl (And.intro rfl (And.intro rfl (And.intro rfl (And.intro rfl (And.intro rfl (trivial))))))) ?_
                  exact ih50 _ (q + 1) m (by omega) (by omega) (by exact hg) (by omega) (by omega)
        refine ZP.wk (L' := [some (vR (ma 0)), some (vI k), some (vI lo), some (vI hi), some (vI (tS tx p - 48)), some (vI _)]) (And.intro rfl (And.intro rfl (And.intro rfl (And.intro rfl (And.intro rfl (And.intro rfl (trivial))))))) ?_
        exact loop50 _ _ (p + 1) 61 (by omega) (by have := tS_lt (tx := tx) (p := p) (by omega); omega) (by rfl) (by omega) (Nat.lt_succ_self _)
      · refine z_iconst (pc' := 35) X dX8_isNumber_34 rfl ?_
        refine z_zreturn X dX8_isNumber_35 (by first | exact nar_0 | exact nar_1 | exact nar_b (by omega)) (Nat.le_refl _) (Nat.le_refl _) (fun _ hh => ⟨_, hh, _, rfl, ?_, ?_⟩)
        · first | assumption | omega
        · refine Or.inl ⟨fun q => ?_, rfl, rfl⟩
          unfold nFst at q
          first
            | (rw [if_pos (by omega)] at q; omega)
            | (rw [if_neg (by omega)] at q; omega)
            | omega
  · refine z_iconst (pc' := 16) X dX8_isNumber_15 rfl ?_
    refine z_goto (tgt := 20) X dX8_isNumber_16 (by decide) ?_
    refine z_bipush (pc' := 22) X dX8_isNumber_20 rfl (by decide) ?_
    refine z_S_fun3 (pc' := 25) X Y_X8_in q2123 dX8_isNumber_22 rfl (by decide) (Nat.le_refl _) (Nat.le_refl _) (Nat.le_of_ble_eq_true rfl) (fun h _ => c_X8_in _ _ _ _ _ _ (by first | assumption | omega) (by first | assumption | omega) (by first | assumption | omega)) (fun r22 hr22 hp22 => ?_)
    have e22 : (if 0 < lo then (1 : Int) else 0) = (if 0 < lo then 1 else 0) := rfl
    refine z_if_eq (tgt := 34) (pc' := 28) X (by first | assumption | omega) dX8_isNumber_25 rfl (by decide) (fun c25 => ?_) (fun c25 => ?_)
    · refine z_iconst (pc' := 35) X dX8_isNumber_34 rfl ?_
      refine z_zreturn X dX8_isNumber_35 (by first | exact nar_0 | exact nar_1 | exact nar_b (by omega)) (Nat.le_refl _) (Nat.le_refl _) (fun _ hh => ⟨_, hh, _, rfl, ?_, ?_⟩)
      · first | assumption | omega
      · refine Or.inl ⟨fun q => ?_, rfl, rfl⟩
        unfold nFst at q
        first
          | (rw [if_pos (by omega)] at q; omega)
          | (rw [if_neg (by omega)] at q; omega)
          | omega
    · refine z_iload (pc' := 30) X dX8_isNumber_28 rfl rfl ?_
      refine z_iload_n (pc' := 31) X dX8_isNumber_30 rfl rfl ?_
      refine z_icmp_le (tgt := 36) (pc' := 34) X (by first | assumption | omega) (by first | assumption | omega) dX8_isNumber_31 rfl (by decide) (fun c31 => ?_) (fun c31 => ?_)
      · refine z_iload (pc' := 38) X dX8_isNumber_36 rfl rfl ?_
        refine z_istore (pc' := 40) X dX8_isNumber_38 rfl (by decide) rfl ?_
        dsimp only [List.set]
        refine z_aload_n (pc' := 41) X dX8_isNumber_40 rfl rfl ?_
        refine z_dup (pc' := 42) X rfl dX8_isNumber_41 rfl ?_
        have hv42 := hR 0 5
        refine z_mget (pc' := 45) X 12 rfl (by decide) q2075 rfl dX8_isNumber_42 rfl ?_
        rw [hp1]
        rw [hp1] at hv42
        refine z_iconst (pc' := 46) X dX8_isNumber_45 rfl ?_
        refine z_iadd (pc' := 47) X dX8_isNumber_46 rfl ?_
        refine z_mput (pc' := 50) X 12 5 rfl (by decide) q2075 rfl rfl rfl (by first | assumption | omega) dX8_isNumber_47 rfl (fun hR47 => ?_)
        have loop50 : ∀ (N : Nat) (v q : Int) (n : Nat), (0 ≤ v ∧ v ≤ 1000) → (0 ≤ q ∧ q ≤ tx.length) → (nGo tx hi n v q = nR tx hi p) → ((tx.length : Int) - q ≤ n) → n < N → ZP C 6 (mF ma h (mset M 0 5 q)) 0 0 [some (vR (ma 0)), some (vI k), some (vI lo), some (vI hi), some (vI (tS tx p - 48)), some (vI v)] 50 [] := by
          intro N
          induction N with
          | zero => intro v q n hvv hq hg hn hN; exact absurd hN (Nat.not_lt_zero _)
          | succ N ih50 =>
            intro v q n hvv hq hg hn hN
            refine ZP.fact (P := mR (mset M 0 5 q)) (fun _ h => h.1.2.2.2) (fun hR50 => ?_)
            have hbq := tS_b hk hq.1
            refine z_iload (pc' := 52) X dX8_isNumber_50 rfl rfl ?_
            refine z_if_le (tgt := 114) (pc' := 55) X (by first | assumption | omega) dX8_isNumber_52 rfl (by decide) (fun c52 => ?_) (fun c52 => ?_)
            · have ex : nR tx hi p = (v, q) := by
                rw [← hg]
                exact nGo_x (fun x => by omega)
              refine z_aload_n (pc' := 115) X dX8_isNumber_114 rfl rfl ?_
              refine z_iload_n (pc' := 116) X dX8_isNumber_115 rfl rfl ?_
              refine z_iload (pc' := 118) X dX8_isNumber_116 rfl rfl ?_
              refine z_V_void2 (pc' := 121) X rfl Y_X8_isTold q2610 dX8_isNumber_118 rfl (by decide) (Nat.le_refl _) (Nat.le_refl _) (Nat.le_of_ble_eq_true rfl) (c_X8_isTold _ _ _ _ k _ hkk (by first | assumption | omega) (by rw [mset_k (by decide)]; exact hm)) (fun M118 hp118 hR118 => ?_)
              rw [told5] at hp118
              subst hp118
              refine z_iload (pc' := 123) X dX8_isNumber_121 rfl rfl ?_
              refine z_iload_n (pc' := 124) X dX8_isNumber_123 rfl rfl ?_
              refine z_icmp_lt (tgt := 131) (pc' := 127) X (by first | assumption | omega) (by first | assumption | omega) dX8_isNumber_124 rfl (by decide) (fun c124 => ?_) (fun c124 => ?_)
              · refine z_iconst (pc' := 132) X dX8_isNumber_131 rfl ?_
                refine z_zreturn X dX8_isNumber_132 (by first | exact nar_0 | exact nar_1 | exact nar_b (by omega)) (Nat.le_refl _) (Nat.le_refl _) (fun _ hh => ⟨_, hh, _, rfl, ?_, ?_⟩)
                · first | assumption | omega
                · have ef : nFst tx lo hi p := by
                    unfold nFst
                    first
                      | (rw [if_pos (by omega)]; omega)
                      | (rw [if_neg (by omega)]; omega)
                  rw [ex]
                  exact Or.inr ⟨ef, rfl, by omega⟩
              · refine z_iconst (pc' := 128) X dX8_isNumber_127 rfl ?_
                refine z_goto (tgt := 132) X dX8_isNumber_128 (by decide) ?_
                refine z_zreturn X dX8_isNumber_132 (by first | exact nar_0 | exact nar_1 | exact nar_b (by omega)) (Nat.le_refl _) (Nat.le_refl _) (fun _ hh => ⟨_, hh, _, rfl, ?_, ?_⟩)
                · first | assumption | omega
                · have ef : nFst tx lo hi p := by
                    unfold nFst
                    first
                      | (rw [if_pos (by omega)]; omega)
                      | (rw [if_neg (by omega)]; omega)
                  rw [ex]
                  exact Or.inr ⟨ef, rfl, by omega⟩
            · refine z_aload_n (pc' := 56) X dX8_isNumber_55 rfl rfl ?_
              refine z_V_fun0 (pc' := 59) X rfl Y_X8_sign q2626 dX8_isNumber_56 rfl (by decide) (Nat.le_refl _) (Nat.le_refl _) (Nat.le_of_ble_eq_true rfl) (c_X8_sign _ _ _ _ (q) tx (ht.num (by decide)) ⟨mset_s, by omega, by omega⟩ hk) (fun r56 hr56 hp56 => ?_)
              subst hp56
              refine z_bipush (pc' := 61) X dX8_isNumber_59 rfl (by decide) ?_
              refine z_bipush (pc' := 63) X dX8_isNumber_61 rfl (by decide) ?_
              refine z_S_fun3 (pc' := 66) X Y_X8_in q2123 dX8_isNumber_63 rfl (by decide) (Nat.le_refl _) (Nat.le_refl _) (Nat.le_of_ble_eq_true rfl) (fun h _ => c_X8_in _ _ _ _ _ _ (by first | assumption | omega) (by first | assumption | omega) (by first | assumption | omega)) (fun r63 hr63 hp63 => ?_)
              refine z_if_eq (tgt := 114) (pc' := 69) X (by first | assumption | omega) dX8_isNumber_66 rfl (by decide) (fun c66 => ?_) (fun c66 => ?_)
              · have ex : nR tx hi p = (v, q) := by
                  rw [← hg]
                  exact nGo_x (fun x => by omega)
                refine z_aload_n (pc' := 115) X dX8_isNumber_114 rfl rfl ?_
                refine z_iload_n (pc' := 116) X dX8_isNumber_115 rfl rfl ?_
                refine z_iload (pc' := 118) X dX8_isNumber_116 rfl rfl ?_
                refine z_V_void2 (pc' := 121) X rfl Y_X8_isTold q2610 dX8_isNumber_118 rfl (by decide) (Nat.le_refl _) (Nat.le_refl _) (Nat.le_of_ble_eq_true rfl) (c_X8_isTold _ _ _ _ k _ hkk (by first | assumption | omega) (by rw [mset_k (by decide)]; exact hm)) (fun M118 hp118 hR118 => ?_)
                rw [told5] at hp118
                subst hp118
                refine z_iload (pc' := 123) X dX8_isNumber_121 rfl rfl ?_
                refine z_iload_n (pc' := 124) X dX8_isNumber_123 rfl rfl ?_
                refine z_icmp_lt (tgt := 131) (pc' := 127) X (by first | assumption | omega) (by first | assumption | omega) dX8_isNumber_124 rfl (by decide) (fun c124 => ?_) (fun c124 => ?_)
                · refine z_iconst (pc' := 132) X dX8_isNumber_131 rfl ?_
                  refine z_zreturn X dX8_isNumber_132 (by first | exact nar_0 | exact nar_1 | exact nar_b (by omega)) (Nat.le_refl _) (Nat.le_refl _) (fun _ hh => ⟨_, hh, _, rfl, ?_, ?_⟩)
                  · first | assumption | omega
                  · have ef : nFst tx lo hi p := by
                      unfold nFst
                      first
                        | (rw [if_pos (by omega)]; omega)
                        | (rw [if_neg (by omega)]; omega)
                    rw [ex]
                    exact Or.inr ⟨ef, rfl, by omega⟩
                · refine z_iconst (pc' := 128) X dX8_isNumber_127 rfl ?_
                  refine z_goto (tgt := 132) X dX8_isNumber_128 (by decide) ?_
                  refine z_zreturn X dX8_isNumber_132 (by first | exact nar_0 | exact nar_1 | exact nar_b (by omega)) (Nat.le_refl _) (Nat.le_refl _) (fun _ hh => ⟨_, hh, _, rfl, ?_, ?_⟩)
                  · first | assumption | omega
                  · have ef : nFst tx lo hi p := by
                      unfold nFst
                      first
                        | (rw [if_pos (by omega)]; omega)
                        | (rw [if_neg (by omega)]; omega)
                    rw [ex]
                    exact Or.inr ⟨ef, rfl, by omega⟩
              · refine z_bipush (pc' := 71) X dX8_isNumber_69 rfl (by decide) ?_
                refine z_iload (pc' := 73) X dX8_isNumber_71 rfl rfl ?_
                refine z_imul (pc' := 74) X dX8_isNumber_73 rfl ?_
                refine z_aload_n (pc' := 75) X dX8_isNumber_74 rfl rfl ?_
                refine z_V_fun0 (pc' := 78) X rfl Y_X8_sign q2626 dX8_isNumber_75 rfl (by decide) (Nat.le_refl _) (Nat.le_refl _) (Nat.le_of_ble_eq_true rfl) (c_X8_sign _ _ _ _ (q) tx (ht.num (by decide)) ⟨mset_s, by omega, by omega⟩ hk) (fun r75 hr75 hp75 => ?_)
                subst hp75
                refine z_iadd (pc' := 79) X dX8_isNumber_78 rfl ?_
                refine z_bipush (pc' := 81) X dX8_isNumber_79 rfl (by decide) ?_
                refine z_isub (pc' := 82) X dX8_isNumber_81 rfl ?_
                refine z_iload_n (pc' := 83) X dX8_isNumber_82 rfl rfl ?_
                refine z_icmp_gt (tgt := 114) (pc' := 86) X (by first | assumption | omega) (by first | assumption | omega) dX8_isNumber_83 rfl (by decide) (fun c83 => ?_) (fun c83 => ?_)
                · have ex : nR tx hi p = (v, q) := by
                    rw [← hg]
                    exact nGo_x (fun x => by omega)
                  refine z_aload_n (pc' := 115) X dX8_isNumber_114 rfl rfl ?_
                  refine z_iload_n (pc' := 116) X dX8_isNumber_115 rfl rfl ?_
                  refine z_iload (pc' := 118) X dX8_isNumber_116 rfl rfl ?_
                  refine z_V_void2 (pc' := 121) X rfl Y_X8_isTold q2610 dX8_isNumber_118 rfl (by decide) (Nat.le_refl _) (Nat.le_refl _) (Nat.le_of_ble_eq_true rfl) (c_X8_isTold _ _ _ _ k _ hkk (by first | assumption | omega) (by rw [mset_k (by decide)]; exact hm)) (fun M118 hp118 hR118 => ?_)
                  rw [told5] at hp118
                  subst hp118
                  refine z_iload (pc' := 123) X dX8_isNumber_121 rfl rfl ?_
                  refine z_iload_n (pc' := 124) X dX8_isNumber_123 rfl rfl ?_
                  refine z_icmp_lt (tgt := 131) (pc' := 127) X (by first | assumption | omega) (by first | assumption | omega) dX8_isNumber_124 rfl (by decide) (fun c124 => ?_) (fun c124 => ?_)
                  · refine z_iconst (pc' := 132) X dX8_isNumber_131 rfl ?_
                    refine z_zreturn X dX8_isNumber_132 (by first | exact nar_0 | exact nar_1 | exact nar_b (by omega)) (Nat.le_refl _) (Nat.le_refl _) (fun _ hh => ⟨_, hh, _, rfl, ?_, ?_⟩)
                    · first | assumption | omega
                    · have ef : nFst tx lo hi p := by
                        unfold nFst
                        first
                          | (rw [if_pos (by omega)]; omega)
                          | (rw [if_neg (by omega)]; omega)
                      rw [ex]
                      exact Or.inr ⟨ef, rfl, by omega⟩
                  · refine z_iconst (pc' := 128) X dX8_isNumber_127 rfl ?_
                    refine z_goto (tgt := 132) X dX8_isNumber_128 (by decide) ?_
                    refine z_zreturn X dX8_isNumber_132 (by first | exact nar_0 | exact nar_1 | exact nar_b (by omega)) (Nat.le_refl _) (Nat.le_refl _) (fun _ hh => ⟨_, hh, _, rfl, ?_, ?_⟩)
                    · first | assumption | omega
                    · have ef : nFst tx lo hi p := by
                        unfold nFst
                        first
                          | (rw [if_pos (by omega)]; omega)
                          | (rw [if_neg (by omega)]; omega)
                      rw [ex]
                      exact Or.inr ⟨ef, rfl, by omega⟩
                · refine z_bipush (pc' := 88) X dX8_isNumber_86 rfl (by decide) ?_
                  refine z_iload (pc' := 90) X dX8_isNumber_88 rfl rfl ?_
                  refine z_imul (pc' := 91) X dX8_isNumber_90 rfl ?_
                  refine z_aload_n (pc' := 92) X dX8_isNumber_91 rfl rfl ?_
                  refine z_V_fun0 (pc' := 95) X rfl Y_X8_sign q2626 dX8_isNumber_92 rfl (by decide) (Nat.le_refl _) (Nat.le_refl _) (Nat.le_of_ble_eq_true rfl) (c_X8_sign _ _ _ _ (q) tx (ht.num (by decide)) ⟨mset_s, by omega, by omega⟩ hk) (fun r92 hr92 hp92 => ?_)
                  subst hp92
                  refine z_iadd (pc' := 96) X dX8_isNumber_95 rfl ?_
                  refine z_bipush (pc' := 98) X dX8_isNumber_96 rfl (by decide) ?_
                  refine z_isub (pc' := 99) X dX8_isNumber_98 rfl ?_
                  refine z_istore (pc' := 101) X dX8_isNumber_99 rfl (by decide) rfl ?_
                  dsimp only [List.set]
                  refine z_aload_n (pc' := 102) X dX8_isNumber_101 rfl rfl ?_
                  refine z_dup (pc' := 103) X rfl dX8_isNumber_102 rfl ?_
                  have hv103 := hR50 0 5
                  refine z_mget (pc' := 106) X 12 rfl (by decide) q2075 rfl dX8_isNumber_103 rfl ?_
                  rw [mset_s]
                  rw [mset_s] at hv103
                  refine z_iconst (pc' := 107) X dX8_isNumber_106 rfl ?_
                  refine z_iadd (pc' := 108) X dX8_isNumber_107 rfl ?_
                  refine z_mput (pc' := 111) X 12 5 rfl (by decide) q2075 rfl rfl rfl (by first | assumption | omega) dX8_isNumber_108 rfl (fun hR108 => ?_)
                  refine z_goto (tgt := 50) X dX8_isNumber_111 (by decide) ?_
                  have hql := tS_lt (tx := tx) (p := q) (by omega)
                  obtain ⟨m, rfl⟩ : ∃ m, n = m + 1 := ⟨n - 1, by omega⟩
                  rw [nGo_s ⟨⟨by omega, by omega, by omega⟩, by omega⟩] at hg
                  rw [mset_t]
                  refine ZP.wk (L' := [some (vR (ma 0)), some (vI k), some (vI lo), some (vI hi), some (vI (tS tx p - 48)), some (vI _)]) (And.intro rfl (And.intro rfl (And.intro rfl (And.intro rfl (And.intro rfl (And.intro rfl (trivial))))))) ?_
                  exact ih50 _ (q + 1) m (by omega) (by omega) (by exact hg) (by omega) (by omega)
        refine ZP.wk (L' := [some (vR (ma 0)), some (vI k), some (vI lo), some (vI hi), some (vI (tS tx p - 48)), some (vI _)]) (And.intro rfl (And.intro rfl (And.intro rfl (And.intro rfl (And.intro rfl (And.intro rfl (trivial))))))) ?_
        exact loop50 _ _ (p + 1) 61 (by omega) (by have := tS_lt (tx := tx) (p := p) (by omega); omega) (by rfl) (by omega) (Nat.lt_succ_self _)
      · refine z_iconst (pc' := 35) X dX8_isNumber_34 rfl ?_
        refine z_zreturn X dX8_isNumber_35 (by first | exact nar_0 | exact nar_1 | exact nar_b (by omega)) (Nat.le_refl _) (Nat.le_refl _) (fun _ hh => ⟨_, hh, _, rfl, ?_, ?_⟩)
        · first | assumption | omega
        · refine Or.inl ⟨fun q => ?_, rfl, rfl⟩
          unfold nFst at q
          first
            | (rw [if_pos (by omega)] at q; omega)
            | (rw [if_neg (by omega)] at q; omega)
            | omega
def clsF (f : Int → Int) (dp n k : Int) : Int → Int := fun j => if 4 * (dp - 1) ≤ j ∧ j < 4 * (dp - 1) + k then f j + n * f (j + 4) else f j
def clsM (M : MM) (dp n k : Int) : MM := fun r => if r = 9 then clsF (M 9) dp n k else M r
theorem clsM_9 {M : MM} {dp n k : Int} : clsM M dp n k 9 = clsF (M 9) dp n k := if_pos rfl
theorem clsM_r {M : MM} {dp n k : Int} {r : Nat} (h : r ≠ 9) : clsM M dp n k r = M r := if_neg h
theorem clsM_0 {M : MM} {dp n : Int} : clsM M dp n 0 = M := by
  funext r
  unfold clsM
  by_cases h : r = 9
  · subst h
    rw [if_pos rfl]
    funext j
    exact if_neg (by omega)
  · rw [if_neg h]
theorem clsM_s {M : MM} {dp n k : Int} (hk : 0 ≤ k ∧ k < 4) : mset (clsM M dp n k) 9 (4 * (dp - 1) + k) (clsM M dp n k 9 (4 * (dp - 1) + k) + n * clsM M dp n k 9 (4 * dp + k)) = clsM M dp n (k + 1) := by
  funext r j
  by_cases h : r = 9
  · subst h
    rw [clsM_9, clsM_9]
    by_cases hj : j = 4 * (dp - 1) + k
    · subst hj
      rw [mset_s]
      unfold clsF
      rw [if_neg (by omega), if_neg (by omega), if_pos (by omega), show 4 * (dp - 1) + k + 4 = 4 * dp + k by omega]
    · rw [mset_k hj, clsM_9]
      unfold clsF
      by_cases h3 : 4 * (dp - 1) ≤ j ∧ j < 4 * (dp - 1) + k
      · rw [if_pos h3, if_pos (by omega)]
      · rw [if_neg h3, if_neg (by omega)]
  · rw [mset_r h, clsM_r h, clsM_r h]
theorem n9_b {n x : Int} (hn : 0 ≤ n ∧ n ≤ 9) (hx : 0 ≤ x ∧ x ≤ 2000000) : 0 ≤ n * x ∧ n * x ≤ 18000000 :=
  ⟨Int.mul_nonneg hn.1 hx.1, Int.le_trans (Int.mul_le_mul hn.2 hx.2 hx.1 (by decide)) (by decide)⟩
theorem tmz_b {tx : List Int} {p : Int} : 0 ≤ tmz tx p ∧ tmz tx p ≤ 9 := by unfold tmz; split <;> omega
theorem srt_b {v : Int} : -1 ≤ srt v ∧ srt v ≤ 3 := by unfold srt; (repeat' split) <;> omega
def trN (tx : List Int) (p : Int) : Int := if srt (tS tx p) = -1 then 0 else tmz tx (p + 1)
def trP (tx : List Int) (p : Int) : Int := if srt (tS tx p) = -1 then p else p + 1 + bit (0 < tmz tx (p + 1))
def trD (tx : List Int) (p : Int) : Int := if srt (tS tx p) = -1 then 0 else srt (tS tx p)
theorem srt_n : srt (-1) = -1 := by decide
theorem Y_X8_closes : zYV yX8_closes cX8_closes 4 (some .boolean) 1 := ⟨⟨q2643, qs106, q132, q2644⟩, by decide +kernel, by decide⟩
set_option maxRecDepth 100000 in
theorem c_X8_closes (l : Launch) (g : zG) (ma : Nat → Nat) (M : MM) (dp p : Int) (tx : List Int) (ht : tRep M tx) (hp : M 0 5 = p ∧ 0 ≤ p ∧ p ≤ tx.length) (hk : ∀ c ∈ tx, 32 ≤ c ∧ c ≤ 126) (hdp : 1 ≤ dp ∧ dp ≤ 4) (hb9 : ∀ s, 0 ≤ s → s < 4 → (0 ≤ M 9 (4 * (dp - 1) + s) ∧ M 9 (4 * (dp - 1) + s) ≤ 2000000) ∧ (0 ≤ M 9 (4 * dp + s) ∧ M 9 (4 * dp + s) ≤ 2000000)) : mInt l yX8_closes cX8_closes 4 (some .boolean) 3 [vR (ma 0), vI dp] g ma M (fun r M' => M' = clsM (mset M 0 5 (p + bit (0 < tmz tx p))) dp (tmz tx p) 4 ∧ ((r = 1 ∧ 0 < tmz tx p) ∨ (r = 0 ∧ tmz tx p = 0))) := by
  refine mInt.mk (L0 := [some (vR (ma 0)), some (vI dp), none, none]) (by decide) rfl (Nat.le_of_ble_eq_true rfl) rfl (fun C h hg hl hR X => ?_)
  subst hg hl
  obtain ⟨hpA, hp2⟩ := hp
  have hl2 := ht.1
  have hl3 := ht.2.1
  have htb := tS_b hk hp2.1
  refine z_aload_n (pc' := 1) X dX8_closes_0 rfl rfl ?_
  refine z_V_int0 (pc' := 4) X rfl Y_X8_times q2637 dX8_closes_1 rfl (by decide) (Nat.le_refl _) (Nat.le_refl _) (Nat.le_of_ble_eq_true rfl) (c_X8_times _ _ _ _ p tx ht ⟨hpA, hp2⟩ hk) (fun r1 M1 hr1 hp1 hR1 => ?_)
  obtain ⟨f1, g1⟩ := hp1
  subst f1 g1
  have ht9 := tmz_b (tx := tx) (p := p)
  refine z_istore_n (pc' := 5) X dX8_closes_4 rfl (by decide) rfl ?_
  dsimp only [List.set]
  refine z_iconst (pc' := 6) X dX8_closes_5 rfl ?_
  refine z_istore_n (pc' := 7) X dX8_closes_6 rfl (by decide) rfl ?_
  dsimp only [List.set]
  have loop7 : ∀ (N : Nat) (k : Int), (0 ≤ k ∧ k ≤ 4) → (4 - k).toNat < N → ZP C 4 (mF ma h (clsM (mset M 0 5 (p + bit (0 < tmz tx p))) dp (tmz tx p) k)) 0 0 [some (vR (ma 0)), some (vI dp), some (vI (tmz tx p)), some (vI k)] 7 [] := by
    intro N
    induction N with
    | zero => intro k hkk hN; exact absurd hN (Nat.not_lt_zero _)
    | succ N ih7 =>
      intro k hkk hN
      refine ZP.fact (P := mR (clsM (mset M 0 5 (p + bit (0 < tmz tx p))) dp (tmz tx p) k)) (fun _ h => h.1.2.2.2) (fun hR7 => ?_)
      refine z_iload_n (pc' := 8) X dX8_closes_7 rfl rfl ?_
      refine z_iconst (pc' := 9) X dX8_closes_8 rfl ?_
      refine z_icmp_ge (tgt := 45) (pc' := 12) X (by first | assumption | omega) (by first | assumption | omega) dX8_closes_9 rfl (by decide) (fun c9 => ?_) (fun c9 => ?_)
      · refine z_iload_n (pc' := 46) X dX8_closes_45 rfl rfl ?_
        refine z_if_le (tgt := 53) (pc' := 49) X (by first | assumption | omega) dX8_closes_46 rfl (by decide) (fun c46 => ?_) (fun c46 => ?_)
        · refine z_iconst (pc' := 54) X dX8_closes_53 rfl ?_
          refine z_zreturn X dX8_closes_54 (by first | exact nar_0 | exact nar_1 | exact nar_b (by omega)) (Nat.le_refl _) (Nat.le_refl _) (fun _ hh => ⟨_, hh, _, rfl, ?_, ?_⟩)
          · first | assumption | omega
          · rw [show k = 4 by omega]
            exact ⟨rfl, by omega⟩
        · refine z_iconst (pc' := 50) X dX8_closes_49 rfl ?_
          refine z_goto (tgt := 54) X dX8_closes_50 (by decide) ?_
          refine z_zreturn X dX8_closes_54 (by first | exact nar_0 | exact nar_1 | exact nar_b (by omega)) (Nat.le_refl _) (Nat.le_refl _) (fun _ hh => ⟨_, hh, _, rfl, ?_, ?_⟩)
          · first | assumption | omega
          · rw [show k = 4 by omega]
            exact ⟨rfl, by omega⟩
      · refine z_aload_n (pc' := 13) X dX8_closes_12 rfl rfl ?_
        refine z_mget (pc' := 16) X 15 rfl (by decide) q2078 rfl dX8_closes_13 rfl ?_
        refine z_iconst (pc' := 17) X dX8_closes_16 rfl ?_
        refine z_iload_n (pc' := 18) X dX8_closes_17 rfl rfl ?_
        refine z_iconst (pc' := 19) X dX8_closes_18 rfl ?_
        refine z_isub (pc' := 20) X dX8_closes_19 rfl ?_
        refine z_imul (pc' := 21) X dX8_closes_20 rfl ?_
        refine z_iload_n (pc' := 22) X dX8_closes_21 rfl rfl ?_
        refine z_iadd (pc' := 23) X dX8_closes_22 rfl ?_
        refine z_dup2 (pc' := 24) X rfl rfl dX8_closes_23 rfl ?_
        refine z_mld (pc' := 25) X (r := 9) (by decide) (show 0 ≤ _ ∧ _ < (20 : Int) by omega) dX8_closes_24 rfl (fun hv24 => ?_)
        have e24 : clsM (mset M 0 5 (p + bit (0 < tmz tx p))) dp (tmz tx p) k 9 (4 * (dp - 1) + k) = M 9 (4 * (dp - 1) + k) := by rw [clsM_9, mset_r (by decide)]; exact if_neg (by omega)
        have e35 : clsM (mset M 0 5 (p + bit (0 < tmz tx p))) dp (tmz tx p) k 9 (4 * dp + k) = M 9 (4 * dp + k) := by rw [clsM_9, mset_r (by decide)]; exact if_neg (by omega)
        have b24 := hb9 k (by omega) (by omega)
        have b35 := n9_b ht9 b24.2
        refine z_iload_n (pc' := 26) X dX8_closes_25 rfl rfl ?_
        refine z_aload_n (pc' := 27) X dX8_closes_26 rfl rfl ?_
        refine z_mget (pc' := 30) X 15 rfl (by decide) q2078 rfl dX8_closes_27 rfl ?_
        refine z_iconst (pc' := 31) X dX8_closes_30 rfl ?_
        refine z_iload_n (pc' := 32) X dX8_closes_31 rfl rfl ?_
        refine z_imul (pc' := 33) X dX8_closes_32 rfl ?_
        refine z_iload_n (pc' := 34) X dX8_closes_33 rfl rfl ?_
        refine z_iadd (pc' := 35) X dX8_closes_34 rfl ?_
        refine z_mld (pc' := 36) X (r := 9) (by decide) (show 0 ≤ _ ∧ _ < (20 : Int) by omega) dX8_closes_35 rfl (fun hv35 => ?_)
        refine z_imul (pc' := 37) X dX8_closes_36 rfl ?_
        refine z_iadd (pc' := 38) X dX8_closes_37 rfl ?_
        refine z_mst (pc' := 39) X (r := 9) (by decide) (show 0 ≤ _ ∧ _ < (20 : Int) by omega) (by rw [e24, e35]; omega) dX8_closes_38 rfl (fun hR38 => ?_)
        refine z_iinc (pc' := 42) X dX8_closes_39 rfl (by decide) rfl rfl ?_
        dsimp only [List.set]
        refine z_goto (tgt := 7) X dX8_closes_42 (by decide) ?_
        rw [clsM_s (by omega)]
        refine ZP.wk (L' := [some (vR (ma 0)), some (vI dp), some (vI (tmz tx p)), some (vI _)]) (And.intro rfl (And.intro rfl (And.intro rfl (And.intro rfl (trivial))))) ?_
        exact ih7 _ (by omega) (by omega)
  refine ZP.imp (Φ' := mF ma h (clsM (mset M 0 5 (p + bit (0 < tmz tx p))) dp (tmz tx p) 0)) (fun _ hx => by rw [clsM_0]; exact hx) ?_
  refine ZP.wk (L' := [some (vR (ma 0)), some (vI dp), some (vI (tmz tx p)), some (vI _)]) (And.intro rfl (And.intro rfl (And.intro rfl (And.intro rfl (trivial))))) ?_
  exact loop7 _ _ (by decide) (Nat.lt_succ_self _)
theorem Y_X8_isTerm : zYV yX8_isTerm cX8_isTerm 4 (some .boolean) 1 := ⟨⟨q2632, qs104, q132, q2633⟩, by decide +kernel, by decide⟩
set_option maxRecDepth 100000 in
theorem c_X8_isTerm (l : Launch) (g : zG) (ma : Nat → Nat) (M : MM) (dp p : Int) (tx : List Int) (ht : tRep M tx) (hp : M 0 5 = p ∧ 0 ≤ p ∧ p ≤ tx.length) (hk : ∀ c ∈ tx, 32 ≤ c ∧ c ≤ 126) (hdp : 0 ≤ dp ∧ dp ≤ 4) (hb9 : ∀ s, 0 ≤ s → s < 4 → 0 ≤ M 9 (4 * dp + s) ∧ M 9 (4 * dp + s) ≤ 2000000) : mInt l yX8_isTerm cX8_isTerm 4 (some .boolean) 3 [vR (ma 0), vI dp] g ma M (fun r M' => M' = mset (mset M 0 5 (trP tx p)) 9 (4 * dp + trD tx p) (M 9 (4 * dp + trD tx p) + trN tx p) ∧ ((r = 1 ∧ 0 < trN tx p) ∨ (r = 0 ∧ trN tx p = 0))) := by
  refine mInt.mk (L0 := [some (vR (ma 0)), some (vI dp), none, none]) (by decide) rfl (Nat.le_of_ble_eq_true rfl) rfl (fun C h hg hl hR X => ?_)
  subst hg hl
  obtain ⟨hp1, hp2⟩ := hp
  have hl2 := ht.1
  have hl3 := ht.2.1
  have htb := tS_b hk hp2.1
  have hsb := srt_b (v := tS tx p)
  have hb90 := hb9 0 (by omega) (by omega)
  have ht9 := tmz_b (tx := tx) (p := p + 1)
  refine z_aload_n (pc' := 1) X dX8_isTerm_0 rfl rfl ?_
  refine z_V_fun0 (pc' := 4) X rfl Y_X8_sign q2626 dX8_isTerm_1 rfl (by decide) (Nat.le_refl _) (Nat.le_refl _) (Nat.le_of_ble_eq_true rfl) (c_X8_sign _ _ _ M p tx ht ⟨hp1, hp2⟩ hk) (fun r1 hr1 hp1 => ?_)
  subst hp1
  refine z_S_fun1 (pc' := 7) X Y_X8_sortBy q2634 dX8_isTerm_4 rfl (by decide) (Nat.le_refl _) (Nat.le_refl _) (Nat.le_of_ble_eq_true rfl) (fun h _ => c_X8_sortBy _ _ _ _ (by first | assumption | omega)) (fun r4 hr4 hp4 => ?_)
  subst hp4
  change rng (srt (tS tx p)) at hr4
  refine (show ZP _ _ _ _ _ _ _ (vI (srt (tS tx p)) :: _) from ?_)
  refine z_istore_n (pc' := 8) X dX8_isTerm_7 rfl (by decide) rfl ?_
  dsimp only [List.set]
  refine z_aload_n (pc' := 9) X dX8_isTerm_8 rfl rfl ?_
  refine z_dup (pc' := 10) X rfl dX8_isTerm_9 rfl ?_
  have hv10 := hR 0 5
  refine z_mget (pc' := 13) X 12 rfl (by decide) q2075 rfl dX8_isTerm_10 rfl ?_
  rw [hp1]
  rw [hp1] at hv10
  refine z_iload_n (pc' := 14) X dX8_isTerm_13 rfl rfl ?_
  refine z_iconst (pc' := 15) X dX8_isTerm_14 rfl ?_
  refine z_icmp_ne (tgt := 22) (pc' := 18) X (by first | assumption | omega) (by first | assumption | omega) dX8_isTerm_15 rfl (by decide) (fun c15 => ?_) (fun c15 => ?_)
  · refine z_iconst (pc' := 23) X dX8_isTerm_22 rfl ?_
    refine z_iadd (pc' := 24) X dX8_isTerm_23 rfl ?_
    refine z_mput (pc' := 27) X 12 5 rfl (by decide) q2075 rfl rfl rfl (by first | assumption | omega) dX8_isTerm_24 rfl (fun hR24 => ?_)
    refine z_iload_n (pc' := 28) X dX8_isTerm_27 rfl rfl ?_
    refine z_iconst (pc' := 29) X dX8_isTerm_28 rfl ?_
    refine z_icmp_ne (tgt := 36) (pc' := 32) X (by first | assumption | omega) (by first | assumption | omega) dX8_isTerm_29 rfl (by decide) (fun c29 => ?_) (fun c29 => ?_)
    · refine z_aload_n (pc' := 37) X dX8_isTerm_36 rfl rfl ?_
      refine z_V_int0 (pc' := 40) X rfl Y_X8_times q2637 dX8_isTerm_37 rfl (by decide) (Nat.le_refl _) (Nat.le_refl _) (Nat.le_of_ble_eq_true rfl) (c_X8_times _ _ _ _ (p + 1) tx (ht.num (by decide)) ⟨mset_s, by omega, by have hne : tS tx p ≠ -1 := (fun q => c15 (by rw [q]; exact srt_n)); have := tS_lt hne; omega⟩ hk) (fun r37 M37 hr37 hp37 hR37 => ?_)
      obtain ⟨f37, g37⟩ := hp37
      rw [mset_t] at g37
      subst f37 g37
      have hb9s := hb9 (srt (tS tx p)) (by omega) (by omega)
      refine z_istore_n (pc' := 41) X dX8_isTerm_40 rfl (by decide) rfl ?_
      dsimp only [List.set]
      refine z_aload_n (pc' := 42) X dX8_isTerm_41 rfl rfl ?_
      refine z_mget (pc' := 45) X 15 rfl (by decide) q2078 rfl dX8_isTerm_42 rfl ?_
      refine z_iconst (pc' := 46) X dX8_isTerm_45 rfl ?_
      refine z_iload_n (pc' := 47) X dX8_isTerm_46 rfl rfl ?_
      refine z_imul (pc' := 48) X dX8_isTerm_47 rfl ?_
      refine z_iload_n (pc' := 49) X dX8_isTerm_48 rfl rfl ?_
      refine z_iconst (pc' := 50) X dX8_isTerm_49 rfl ?_
      refine z_icmp_ne (tgt := 57) (pc' := 53) X (by first | assumption | omega) (by first | assumption | omega) dX8_isTerm_50 rfl (by decide) (fun c50 => ?_) (fun c50 => ?_)
      · refine z_iload_n (pc' := 58) X dX8_isTerm_57 rfl rfl ?_
        refine z_iadd (pc' := 59) X dX8_isTerm_58 rfl ?_
        refine z_dup2 (pc' := 60) X rfl rfl dX8_isTerm_59 rfl ?_
        refine z_mld (pc' := 61) X (r := 9) (by decide) (show 0 ≤ _ ∧ _ < (20 : Int) by omega) dX8_isTerm_60 rfl (fun hv60 => ?_)
        first
          | rw [mset_id (by rw [hp1, Int.add_zero])]
          | skip
        first
          | (rw [mset_r (by decide)]; rw [mset_r (by decide)] at hv60)
          | skip
        refine z_iload_n (pc' := 62) X dX8_isTerm_61 rfl rfl ?_
        refine z_iadd (pc' := 63) X dX8_isTerm_62 rfl ?_
        refine z_mst (pc' := 64) X (r := 9) (by decide) (show 0 ≤ _ ∧ _ < (20 : Int) by omega) (by first | assumption | omega) dX8_isTerm_63 rfl (fun hR63 => ?_)
        refine z_iload_n (pc' := 65) X dX8_isTerm_64 rfl rfl ?_
        refine z_if_le (tgt := 72) (pc' := 68) X (by first | assumption | omega) dX8_isTerm_65 rfl (by decide) (fun c65 => ?_) (fun c65 => ?_)
        · refine z_iconst (pc' := 73) X dX8_isTerm_72 rfl ?_
          refine z_zreturn X dX8_isTerm_73 (by first | exact nar_0 | exact nar_1 | exact nar_b (by omega)) (Nat.le_refl _) (Nat.le_refl _) (fun _ hh => ⟨_, hh, _, rfl, ?_, ?_⟩)
          · first | assumption | omega
          · unfold trP trD trN
            first
              | exact absurd c15 (fun q => absurd q c29)
              | exact absurd c15 (fun q => absurd q c50)
              | exact absurd c29 (fun q => absurd q c15)
              | (rw [if_pos c15, if_pos c15, if_pos c15]; exact ⟨by rw [mset_id hp1], by omega⟩)
              | (rw [if_neg c15, if_neg c15, if_neg c15]; exact ⟨rfl, by omega⟩)
        · refine z_iconst (pc' := 69) X dX8_isTerm_68 rfl ?_
          refine z_goto (tgt := 73) X dX8_isTerm_69 (by decide) ?_
          refine z_zreturn X dX8_isTerm_73 (by first | exact nar_0 | exact nar_1 | exact nar_b (by omega)) (Nat.le_refl _) (Nat.le_refl _) (fun _ hh => ⟨_, hh, _, rfl, ?_, ?_⟩)
          · first | assumption | omega
          · unfold trP trD trN
            first
              | exact absurd c15 (fun q => absurd q c29)
              | exact absurd c15 (fun q => absurd q c50)
              | exact absurd c29 (fun q => absurd q c15)
              | (rw [if_pos c15, if_pos c15, if_pos c15]; exact ⟨by rw [mset_id hp1], by omega⟩)
              | (rw [if_neg c15, if_neg c15, if_neg c15]; exact ⟨rfl, by omega⟩)
      · exact absurd c50 c15
    · exact absurd c29 c15
  · refine z_iconst (pc' := 19) X dX8_isTerm_18 rfl ?_
    refine z_goto (tgt := 23) X dX8_isTerm_19 (by decide) ?_
    refine z_iadd (pc' := 24) X dX8_isTerm_23 rfl ?_
    refine z_mput (pc' := 27) X 12 5 rfl (by decide) q2075 rfl rfl rfl (by first | assumption | omega) dX8_isTerm_24 rfl (fun hR24 => ?_)
    refine z_iload_n (pc' := 28) X dX8_isTerm_27 rfl rfl ?_
    refine z_iconst (pc' := 29) X dX8_isTerm_28 rfl ?_
    refine z_icmp_ne (tgt := 36) (pc' := 32) X (by first | assumption | omega) (by first | assumption | omega) dX8_isTerm_29 rfl (by decide) (fun c29 => ?_) (fun c29 => ?_)
    · exact absurd c15 c29
    · refine z_iconst (pc' := 33) X dX8_isTerm_32 rfl ?_
      refine z_goto (tgt := 40) X dX8_isTerm_33 (by decide) ?_
      refine z_istore_n (pc' := 41) X dX8_isTerm_40 rfl (by decide) rfl ?_
      dsimp only [List.set]
      refine z_aload_n (pc' := 42) X dX8_isTerm_41 rfl rfl ?_
      refine z_mget (pc' := 45) X 15 rfl (by decide) q2078 rfl dX8_isTerm_42 rfl ?_
      refine z_iconst (pc' := 46) X dX8_isTerm_45 rfl ?_
      refine z_iload_n (pc' := 47) X dX8_isTerm_46 rfl rfl ?_
      refine z_imul (pc' := 48) X dX8_isTerm_47 rfl ?_
      refine z_iload_n (pc' := 49) X dX8_isTerm_48 rfl rfl ?_
      refine z_iconst (pc' := 50) X dX8_isTerm_49 rfl ?_
      refine z_icmp_ne (tgt := 57) (pc' := 53) X (by first | assumption | omega) (by first | assumption | omega) dX8_isTerm_50 rfl (by decide) (fun c50 => ?_) (fun c50 => ?_)
      · exact absurd c15 c50
      · refine z_iconst (pc' := 54) X dX8_isTerm_53 rfl ?_
        refine z_goto (tgt := 58) X dX8_isTerm_54 (by decide) ?_
        refine z_iadd (pc' := 59) X dX8_isTerm_58 rfl ?_
        refine z_dup2 (pc' := 60) X rfl rfl dX8_isTerm_59 rfl ?_
        refine z_mld (pc' := 61) X (r := 9) (by decide) (show 0 ≤ _ ∧ _ < (20 : Int) by omega) dX8_isTerm_60 rfl (fun hv60 => ?_)
        first
          | rw [mset_id (by rw [hp1, Int.add_zero])]
          | skip
        first
          | (rw [mset_r (by decide)]; rw [mset_r (by decide)] at hv60)
          | skip
        refine z_iload_n (pc' := 62) X dX8_isTerm_61 rfl rfl ?_
        refine z_iadd (pc' := 63) X dX8_isTerm_62 rfl ?_
        refine z_mst (pc' := 64) X (r := 9) (by decide) (show 0 ≤ _ ∧ _ < (20 : Int) by omega) (by first | assumption | omega) dX8_isTerm_63 rfl (fun hR63 => ?_)
        refine z_iload_n (pc' := 65) X dX8_isTerm_64 rfl rfl ?_
        refine z_if_le (tgt := 72) (pc' := 68) X (by first | assumption | omega) dX8_isTerm_65 rfl (by decide) (fun c65 => ?_) (fun c65 => ?_)
        · refine z_iconst (pc' := 73) X dX8_isTerm_72 rfl ?_
          refine z_zreturn X dX8_isTerm_73 (by first | exact nar_0 | exact nar_1 | exact nar_b (by omega)) (Nat.le_refl _) (Nat.le_refl _) (fun _ hh => ⟨_, hh, _, rfl, ?_, ?_⟩)
          · first | assumption | omega
          · unfold trP trD trN
            first
              | exact absurd c15 (fun q => absurd q c29)
              | exact absurd c15 (fun q => absurd q c50)
              | exact absurd c29 (fun q => absurd q c15)
              | (rw [if_pos c15, if_pos c15, if_pos c15]; exact ⟨by rw [mset_id hp1], by omega⟩)
              | (rw [if_neg c15, if_neg c15, if_neg c15]; exact ⟨rfl, by omega⟩)
        · refine z_iconst (pc' := 69) X dX8_isTerm_68 rfl ?_
          refine z_goto (tgt := 73) X dX8_isTerm_69 (by decide) ?_
          refine z_zreturn X dX8_isTerm_73 (by first | exact nar_0 | exact nar_1 | exact nar_b (by omega)) (Nat.le_refl _) (Nat.le_refl _) (fun _ hh => ⟨_, hh, _, rfl, ?_, ?_⟩)
          · first | assumption | omega
          · unfold trP trD trN
            first
              | exact absurd c15 (fun q => absurd q c29)
              | exact absurd c15 (fun q => absurd q c50)
              | exact absurd c29 (fun q => absurd q c15)
              | (rw [if_pos c15, if_pos c15, if_pos c15]; exact ⟨by rw [mset_id hp1], by omega⟩)
              | (rw [if_neg c15, if_neg c15, if_neg c15]; exact ⟨rfl, by omega⟩)
end M18
