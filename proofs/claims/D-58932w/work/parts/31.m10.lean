/-! THE MODEL: calls that change the mill -/
section M10
theorem Y_X8_deliver : zYV yX8_deliver cX8_deliver 5 (some .int) 4 := ⟨⟨q2117, q2118, q132, q2119⟩, by decide +kernel, by decide⟩
set_option maxRecDepth 100000 in
theorem c_X8_deliver (l : Launch) (g : zG) (ma : Nat → Nat) (M : MM) (c s w z : Int) (A : Ab) (P Q : Int) (hc : rng c) (hs : rng s) (hw : rng w) (hz : rng z) (hA : mRep M A) (hk : okA P Q A) (hP : P ≤ 900000) (hQ : Q ≤ 9000000) : mInt l yX8_deliver cX8_deliver 5 (some .int) 12 [vR (ma 0), vI c, vI s, vI w, vI z] g ma M (fun r M' => outP (gDel A.1 c s w z) A (delR w z A.1) (svA A (delS c s w z A.1)) r M') := by
  refine mInt.mk (L0 := [some (vR (ma 0)), some (vI c), some (vI s), some (vI w), some (vI z)]) (by decide) rfl (Nat.le_of_ble_eq_true rfl) rfl (fun C h hg hl hR X => ?_)
  subst hg hl
  obtain ⟨hS, hN, hH, hT⟩ := id hA
  obtain ⟨hkS, -, -, -⟩ := id hk
  obtain ⟨⟨kc1, -, kc3, kc4, kc5⟩, kb, kp, kq⟩ := id hkS
  have hI := hk.I hA hP hQ
  have hn := mI_n hI
  have hh0 : 0 ≤ M 0 0 ∧ M 0 0 ≤ 5 := ⟨by rw [hH.1]; omega, by rw [hH.1]; have := hH.2.1; omega⟩
  have s0 := sc_at hA (j := 0) (by unfold scI; omega)
  have s1 := sc_at hA (j := 1) (by unfold scI; omega)
  refine z_aload_n (pc' := 1) X dX8_deliver_0 rfl rfl ?_
  refine z_iload_n (pc' := 2) X dX8_deliver_1 rfl rfl ?_
  refine z_S_fun1 (pc' := 5) X Y_X8_isCarter q2120 dX8_deliver_2 rfl (by decide) (Nat.le_refl _) (Nat.le_refl _) (Nat.le_of_ble_eq_true rfl) (fun h _ => c_X8_isCarter _ _ _ _ (by first | assumption | omega)) (fun r2 hr2 hp2 => ?_)
  refine z_if_ne (tgt := 12) (pc' := 8) X (by first | assumption | omega) dX8_deliver_5 rfl (by decide) (fun c5 => ?_) (fun c5 => ?_)
  · refine z_iload_n (pc' := 13) X dX8_deliver_12 rfl rfl ?_
    refine z_S_fun1 (pc' := 16) X Y_X8_isSort q2126 dX8_deliver_13 rfl (by decide) (Nat.le_refl _) (Nat.le_refl _) (Nat.le_of_ble_eq_true rfl) (fun h _ => c_X8_isSort _ _ _ _ (by first | assumption | omega)) (fun r13 hr13 hp13 => ?_)
    refine z_if_eq (tgt := 34) (pc' := 19) X (by first | assumption | omega) dX8_deliver_16 rfl (by decide) (fun c16 => ?_) (fun c16 => ?_)
    · refine z_iconst (pc' := 35) X dX8_deliver_34 rfl ?_
      refine z_goto (tgt := 54) X dX8_deliver_35 (by decide) ?_
      refine z_mput (pc' := 57) X 10 3 rfl (by decide) q2073 rfl rfl rfl (by first | assumption | omega) dX8_deliver_54 rfl (fun hR54 => ?_)
      refine z_aload_n (pc' := 58) X dX8_deliver_57 rfl rfl ?_
      have hv58 := hR54 0 3
      refine z_mget (pc' := 61) X 10 rfl (by decide) q2073 rfl dX8_deliver_58 rfl ?_
      rw [mset_s]
      rw [mset_s] at hv58
      refine z_if_le (tgt := 66) (pc' := 64) X (by first | assumption | omega) dX8_deliver_61 rfl (by decide) (fun c61 => ?_) (fun c61 => ?_)
      · exact absurd c61 (by decide)
      · refine z_iconst (pc' := 65) X dX8_deliver_64 rfl ?_
        refine z_ireturn X dX8_deliver_65 (Nat.le_refl _) (Nat.le_refl _) (fun _ hh => ⟨_, hh, _, rfl, ?_, ?_⟩)
        · first | assumption | omega
        · refine ⟨?_, Or.inl ⟨?_, hA.num (by decide)⟩⟩
          · rw [mset_s]; unfold gDel; (repeat' split) <;> omega
          · unfold gDel; (repeat' split) <;> omega
    · refine z_iload_n (pc' := 20) X dX8_deliver_19 rfl rfl ?_
      refine z_S_fun1 (pc' := 23) X Y_X8_isWeight q2129 dX8_deliver_20 rfl (by decide) (Nat.le_refl _) (Nat.le_refl _) (Nat.le_of_ble_eq_true rfl) (fun h _ => c_X8_isWeight _ _ _ _ (by first | assumption | omega)) (fun r20 hr20 hp20 => ?_)
      refine z_if_eq (tgt := 34) (pc' := 26) X (by first | assumption | omega) dX8_deliver_23 rfl (by decide) (fun c23 => ?_) (fun c23 => ?_)
      · refine z_iconst (pc' := 35) X dX8_deliver_34 rfl ?_
        refine z_goto (tgt := 54) X dX8_deliver_35 (by decide) ?_
        refine z_mput (pc' := 57) X 10 3 rfl (by decide) q2073 rfl rfl rfl (by first | assumption | omega) dX8_deliver_54 rfl (fun hR54 => ?_)
        refine z_aload_n (pc' := 58) X dX8_deliver_57 rfl rfl ?_
        have hv58 := hR54 0 3
        refine z_mget (pc' := 61) X 10 rfl (by decide) q2073 rfl dX8_deliver_58 rfl ?_
        rw [mset_s]
        rw [mset_s] at hv58
        refine z_if_le (tgt := 66) (pc' := 64) X (by first | assumption | omega) dX8_deliver_61 rfl (by decide) (fun c61 => ?_) (fun c61 => ?_)
        · exact absurd c61 (by decide)
        · refine z_iconst (pc' := 65) X dX8_deliver_64 rfl ?_
          refine z_ireturn X dX8_deliver_65 (Nat.le_refl _) (Nat.le_refl _) (fun _ hh => ⟨_, hh, _, rfl, ?_, ?_⟩)
          · first | assumption | omega
          · refine ⟨?_, Or.inl ⟨?_, hA.num (by decide)⟩⟩
            · rw [mset_s]; unfold gDel; (repeat' split) <;> omega
            · unfold gDel; (repeat' split) <;> omega
      · refine z_iload (pc' := 28) X dX8_deliver_26 rfl rfl ?_
        refine z_S_fun1 (pc' := 31) X Y_X8_isDamp q2132 dX8_deliver_28 rfl (by decide) (Nat.le_refl _) (Nat.le_refl _) (Nat.le_of_ble_eq_true rfl) (fun h _ => c_X8_isDamp _ _ _ _ (by first | assumption | omega)) (fun r28 hr28 hp28 => ?_)
        refine z_if_ne (tgt := 38) (pc' := 34) X (by first | assumption | omega) dX8_deliver_31 rfl (by decide) (fun c31 => ?_) (fun c31 => ?_)
        · refine z_aload_n (pc' := 39) X dX8_deliver_38 rfl rfl ?_
          refine z_iload_n (pc' := 40) X dX8_deliver_39 rfl rfl ?_
          refine z_iload_n (pc' := 41) X dX8_deliver_40 rfl rfl ?_
          refine z_iload (pc' := 43) X dX8_deliver_41 rfl rfl ?_
          refine z_V_fun3 (pc' := 46) X rfl Y_X8_whyNot q2135 dX8_deliver_43 rfl (by decide) (Nat.le_refl _) (Nat.le_refl _) (Nat.le_of_ble_eq_true rfl) (c_X8_whyNot _ _ _ _ _ _ _ (by first | assumption | omega) (by first | assumption | omega) (by first | assumption | omega) (by first | assumption | omega)) (fun r43 hr43 hp43 => ?_)
          subst hp43
          rw [mWhyIn_S hS (by omega)]
          rw [mWhyIn_S hS (by omega)] at hr43
          refine z_if_ne (tgt := 53) (pc' := 49) X (by first | assumption | omega) dX8_deliver_46 rfl (by decide) (fun c46 => ?_) (fun c46 => ?_)
          · refine z_iconst (pc' := 54) X dX8_deliver_53 rfl ?_
            refine z_mput (pc' := 57) X 10 3 rfl (by decide) q2073 rfl rfl rfl (by first | assumption | omega) dX8_deliver_54 rfl (fun hR54 => ?_)
            refine z_aload_n (pc' := 58) X dX8_deliver_57 rfl rfl ?_
            have hv58 := hR54 0 3
            refine z_mget (pc' := 61) X 10 rfl (by decide) q2073 rfl dX8_deliver_58 rfl ?_
            rw [mset_s]
            rw [mset_s] at hv58
            refine z_if_le (tgt := 66) (pc' := 64) X (by first | assumption | omega) dX8_deliver_61 rfl (by decide) (fun c61 => ?_) (fun c61 => ?_)
            · exact absurd c61 (by decide)
            · refine z_iconst (pc' := 65) X dX8_deliver_64 rfl ?_
              refine z_ireturn X dX8_deliver_65 (Nat.le_refl _) (Nat.le_refl _) (fun _ hh => ⟨_, hh, _, rfl, ?_, ?_⟩)
              · first | assumption | omega
              · refine ⟨?_, Or.inl ⟨?_, hA.num (by decide)⟩⟩
                · rw [mset_s]; unfold gDel; (repeat' split) <;> omega
                · unfold gDel; (repeat' split) <;> omega
          · refine z_iconst (pc' := 50) X dX8_deliver_49 rfl ?_
            refine z_goto (tgt := 54) X dX8_deliver_50 (by decide) ?_
            refine z_mput (pc' := 57) X 10 3 rfl (by decide) q2073 rfl rfl rfl (by first | assumption | omega) dX8_deliver_54 rfl (fun hR54 => ?_)
            refine z_aload_n (pc' := 58) X dX8_deliver_57 rfl rfl ?_
            have hv58 := hR54 0 3
            refine z_mget (pc' := 61) X 10 rfl (by decide) q2073 rfl dX8_deliver_58 rfl ?_
            rw [mset_s]
            rw [mset_s] at hv58
            refine z_if_le (tgt := 66) (pc' := 64) X (by first | assumption | omega) dX8_deliver_61 rfl (by decide) (fun c61 => ?_) (fun c61 => ?_)
            · refine z_aload_n (pc' := 67) X dX8_deliver_66 rfl rfl ?_
              refine z_V_void0 (pc' := 70) X rfl Y_X8_saves q2151 dX8_deliver_67 rfl (by decide) (Nat.le_refl _) (Nat.le_refl _) (Nat.le_of_ble_eq_true rfl) (c_X8_saves _ _ _ _ (by rw [mset_k (by decide)]; exact hh0)) (fun M67 hp67 hR67 => ?_)
              have hg67 := mThr hp67
              have hA2 := (hA.num (k := 3) (by decide)).saved hp67
              have hS2 := hA2.1
              have hn4 : M67 1 4 = M 1 4 := by rw [hS2.2.1.1]; exact hS.2.1.1.symm
              have hw24 : M 1 4 ≠ 24 := by intro q; have e0 : whyInS A.1 c w z = 0 := by omega
                                           unfold whyInS at e0; rw [if_pos (by have := hS.2.1.1; omega)] at e0; exact absurd e0 (by decide)
              refine z_aload_n (pc' := 71) X dX8_deliver_70 rfl rfl ?_
              refine z_iload_n (pc' := 72) X dX8_deliver_71 rfl rfl ?_
              refine z_iload_n (pc' := 73) X dX8_deliver_72 rfl rfl ?_
              refine z_iload_n (pc' := 74) X dX8_deliver_73 rfl rfl ?_
              refine z_iload (pc' := 76) X dX8_deliver_74 rfl rfl ?_
              refine z_V_int4 (pc' := 79) X rfl Y_X8_comes q2158 dX8_deliver_76 rfl (by decide) (Nat.le_refl _) (Nat.le_refl _) (Nat.le_of_ble_eq_true rfl) (c_X8_comes _ _ _ _ c s w z (by omega) (by omega) (by omega) (by omega) (by rw [hn4]; omega) (by rw [mDebt_S hS2 (by omega)]; exact (kc3 c (by omega) (by omega)).1)) (fun r76 M76 hr76 hp76 hR76 => ?_)
              refine z_ireturn X dX8_deliver_79 (Nat.le_refl _) (Nat.le_refl _) (fun _ hh => ⟨_, hh, _, rfl, ?_, ?_⟩)
              · first | assumption | omega
              · have hg0 : gDel A.1 c s w z = 0 := by unfold gDel; rw [if_neg (by omega), if_neg (by omega), if_pos (by omega)]
                obtain ⟨e1, e2, e3⟩ := comes_end hS2 (by omega) (by rw [hn4]; omega) hp76
                rw [hg0]
                exact ⟨by rw [e3 0 (by decide), hg67], Or.inr ⟨rfl, e1, hA2.row e2 e3⟩⟩
            · exact absurd c61 (by decide)
        · refine z_iconst (pc' := 35) X dX8_deliver_34 rfl ?_
          refine z_goto (tgt := 54) X dX8_deliver_35 (by decide) ?_
          refine z_mput (pc' := 57) X 10 3 rfl (by decide) q2073 rfl rfl rfl (by first | assumption | omega) dX8_deliver_54 rfl (fun hR54 => ?_)
          refine z_aload_n (pc' := 58) X dX8_deliver_57 rfl rfl ?_
          have hv58 := hR54 0 3
          refine z_mget (pc' := 61) X 10 rfl (by decide) q2073 rfl dX8_deliver_58 rfl ?_
          rw [mset_s]
          rw [mset_s] at hv58
          refine z_if_le (tgt := 66) (pc' := 64) X (by first | assumption | omega) dX8_deliver_61 rfl (by decide) (fun c61 => ?_) (fun c61 => ?_)
          · exact absurd c61 (by decide)
          · refine z_iconst (pc' := 65) X dX8_deliver_64 rfl ?_
            refine z_ireturn X dX8_deliver_65 (Nat.le_refl _) (Nat.le_refl _) (fun _ hh => ⟨_, hh, _, rfl, ?_, ?_⟩)
            · first | assumption | omega
            · refine ⟨?_, Or.inl ⟨?_, hA.num (by decide)⟩⟩
              · rw [mset_s]; unfold gDel; (repeat' split) <;> omega
              · unfold gDel; (repeat' split) <;> omega
  · refine z_iconst (pc' := 9) X dX8_deliver_8 rfl ?_
    refine z_goto (tgt := 54) X dX8_deliver_9 (by decide) ?_
    refine z_mput (pc' := 57) X 10 3 rfl (by decide) q2073 rfl rfl rfl (by first | assumption | omega) dX8_deliver_54 rfl (fun hR54 => ?_)
    refine z_aload_n (pc' := 58) X dX8_deliver_57 rfl rfl ?_
    have hv58 := hR54 0 3
    refine z_mget (pc' := 61) X 10 rfl (by decide) q2073 rfl dX8_deliver_58 rfl ?_
    rw [mset_s]
    rw [mset_s] at hv58
    refine z_if_le (tgt := 66) (pc' := 64) X (by first | assumption | omega) dX8_deliver_61 rfl (by decide) (fun c61 => ?_) (fun c61 => ?_)
    · exact absurd c61 (by decide)
    · refine z_iconst (pc' := 65) X dX8_deliver_64 rfl ?_
      refine z_ireturn X dX8_deliver_65 (Nat.le_refl _) (Nat.le_refl _) (fun _ hh => ⟨_, hh, _, rfl, ?_, ?_⟩)
      · first | assumption | omega
      · refine ⟨?_, Or.inl ⟨?_, hA.num (by decide)⟩⟩
        · rw [mset_s]; unfold gDel; (repeat' split) <;> omega
        · unfold gDel; (repeat' split) <;> omega
theorem Y_X8_payToll : zYV yX8_payToll cX8_payToll 3 (some .int) 2 := ⟨⟨q2167, q2168, q132, q2169⟩, by decide +kernel, by decide⟩
set_option maxRecDepth 100000 in
theorem c_X8_payToll (l : Launch) (g : zG) (ma : Nat → Nat) (M : MM) (c p : Int) (A : Ab) (P Q : Int) (hc : rng c) (hp : rng p) (hA : mRep M A) (hk : okA P Q A) (hP : P ≤ 900000) (hQ : Q ≤ 9000000) : mInt l yX8_payToll cX8_payToll 3 (some .int) 12 [vR (ma 0), vI c, vI p] g ma M (fun r M' => outP (gPay A.1 c p) A (A.1.1 (13 + 2 * c) - p) (svA A (payS c p A.1)) r M') := by
  refine mInt.mk (L0 := [some (vR (ma 0)), some (vI c), some (vI p)]) (by decide) rfl (Nat.le_of_ble_eq_true rfl) rfl (fun C h hg hl hR X => ?_)
  subst hg hl
  obtain ⟨hS, hN, hH, hT⟩ := id hA
  obtain ⟨hkS, -, -, -⟩ := id hk
  obtain ⟨⟨kc1, -, kc3, kc4, kc5⟩, kb, kp, kq⟩ := id hkS
  have hI := hk.I hA hP hQ
  have hn := mI_n hI
  have hh0 : 0 ≤ M 0 0 ∧ M 0 0 ≤ 5 := ⟨by rw [hH.1]; omega, by rw [hH.1]; have := hH.2.1; omega⟩
  have s0 := sc_at hA (j := 0) (by unfold scI; omega)
  have s1 := sc_at hA (j := 1) (by unfold scI; omega)
  refine z_aload_n (pc' := 1) X dX8_payToll_0 rfl rfl ?_
  refine z_iload_n (pc' := 2) X dX8_payToll_1 rfl rfl ?_
  refine z_S_fun1 (pc' := 5) X Y_X8_isCarter q2120 dX8_payToll_2 rfl (by decide) (Nat.le_refl _) (Nat.le_refl _) (Nat.le_of_ble_eq_true rfl) (fun h _ => c_X8_isCarter _ _ _ _ (by first | assumption | omega)) (fun r2 hr2 hp2 => ?_)
  refine z_if_ne (tgt := 12) (pc' := 8) X (by first | assumption | omega) dX8_payToll_5 rfl (by decide) (fun c5 => ?_) (fun c5 => ?_)
  · refine z_iload_n (pc' := 13) X dX8_payToll_12 rfl rfl ?_
    refine z_iconst (pc' := 14) X dX8_payToll_13 rfl ?_
    refine z_sipush (pc' := 17) X dX8_payToll_14 rfl (by decide) ?_
    refine z_S_fun3 (pc' := 20) X Y_X8_in q2123 dX8_payToll_17 rfl (by decide) (Nat.le_refl _) (Nat.le_refl _) (Nat.le_of_ble_eq_true rfl) (fun h _ => c_X8_in _ _ _ _ _ _ (by first | assumption | omega) (by first | assumption | omega) (by first | assumption | omega)) (fun r17 hr17 hp17 => ?_)
    refine z_if_ne (tgt := 27) (pc' := 23) X (by first | assumption | omega) dX8_payToll_20 rfl (by decide) (fun c20 => ?_) (fun c20 => ?_)
    · refine z_aload_n (pc' := 28) X dX8_payToll_27 rfl rfl ?_
      refine z_iload_n (pc' := 29) X dX8_payToll_28 rfl rfl ?_
      refine z_V_fun1 (pc' := 32) X rfl Y_X8_debt q2139 dX8_payToll_29 rfl (by decide) (Nat.le_refl _) (Nat.le_refl _) (Nat.le_of_ble_eq_true rfl) (c_X8_debt _ _ _ _ _ (by first | assumption | omega)) (fun r29 hr29 hp29 => ?_)
      subst hp29
      rw [mDebt_S hS (by omega)]
      rw [mDebt_S hS (by omega)] at hr29
      refine z_iload_n (pc' := 33) X dX8_payToll_32 rfl rfl ?_
      refine z_icmp_ge (tgt := 40) (pc' := 36) X (by first | assumption | omega) (by first | assumption | omega) dX8_payToll_33 rfl (by decide) (fun c33 => ?_) (fun c33 => ?_)
      · refine z_iconst (pc' := 41) X dX8_payToll_40 rfl ?_
        refine z_mput (pc' := 44) X 10 3 rfl (by decide) q2073 rfl rfl rfl (by first | assumption | omega) dX8_payToll_41 rfl (fun hR41 => ?_)
        refine z_aload_n (pc' := 45) X dX8_payToll_44 rfl rfl ?_
        have hv45 := hR41 0 3
        refine z_mget (pc' := 48) X 10 rfl (by decide) q2073 rfl dX8_payToll_45 rfl ?_
        rw [mset_s]
        rw [mset_s] at hv45
        refine z_if_le (tgt := 53) (pc' := 51) X (by first | assumption | omega) dX8_payToll_48 rfl (by decide) (fun c48 => ?_) (fun c48 => ?_)
        · refine z_aload_n (pc' := 54) X dX8_payToll_53 rfl rfl ?_
          refine z_V_void0 (pc' := 57) X rfl Y_X8_saves q2151 dX8_payToll_54 rfl (by decide) (Nat.le_refl _) (Nat.le_refl _) (Nat.le_of_ble_eq_true rfl) (c_X8_saves _ _ _ _ (by rw [mset_k (by decide)]; exact hh0)) (fun M54 hp54 hR54 => ?_)
          have hg54 := mThr hp54
          have hA2 := (hA.num (k := 3) (by decide)).saved hp54
          have hS2 := hA2.1
          refine z_aload_n (pc' := 58) X dX8_payToll_57 rfl rfl ?_
          refine z_mget (pc' := 61) X 0 rfl (by decide) q2063 rfl dX8_payToll_58 rfl ?_
          refine z_bipush (pc' := 63) X dX8_payToll_61 rfl (by decide) ?_
          refine z_iconst (pc' := 64) X dX8_payToll_63 rfl ?_
          refine z_iload_n (pc' := 65) X dX8_payToll_64 rfl rfl ?_
          refine z_imul (pc' := 66) X dX8_payToll_65 rfl ?_
          refine z_iadd (pc' := 67) X dX8_payToll_66 rfl ?_
          refine z_dup2 (pc' := 68) X rfl rfl dX8_payToll_67 rfl ?_
          refine z_mld (pc' := 69) X (r := 1) (by decide) (show 0 ≤ _ ∧ _ < (321 : Int) by omega) dX8_payToll_68 rfl (fun hv68 => ?_)
          have e68 : M54 1 (13 + 2 * c) = A.1.1 (13 + 2 * c) := hS2.1 _ (by unfold scI; omega)
          rw [e68]
          rw [e68] at hv68
          have k68 := (kc3 c (by omega) (by omega)).1
          refine z_iload_n (pc' := 70) X dX8_payToll_69 rfl rfl ?_
          refine z_isub (pc' := 71) X dX8_payToll_70 rfl ?_
          refine z_mst (pc' := 72) X (r := 1) (by decide) (show 0 ≤ _ ∧ _ < (321 : Int) by omega) (by first | assumption | omega) dX8_payToll_71 rfl (fun hR71 => ?_)
          refine z_aload_n (pc' := 73) X dX8_payToll_72 rfl rfl ?_
          refine z_mget (pc' := 76) X 0 rfl (by decide) q2063 rfl dX8_payToll_73 rfl ?_
          refine z_iconst (pc' := 77) X dX8_payToll_76 rfl ?_
          refine z_dup2 (pc' := 78) X rfl rfl dX8_payToll_77 rfl ?_
          refine z_mld (pc' := 79) X (r := 1) (by decide) (show 0 ≤ _ ∧ _ < (321 : Int) by omega) dX8_payToll_78 rfl (fun hv78 => ?_)
          have e78 : M54 1 1 = A.1.1 1 := hS2.1 _ (by unfold scI; omega)
          rw [mset_k (by omega), e78]
          rw [mset_k (by omega), e78] at hv78
          refine z_iload_n (pc' := 80) X dX8_payToll_79 rfl rfl ?_
          refine z_iadd (pc' := 81) X dX8_payToll_80 rfl ?_
          refine z_mst (pc' := 82) X (r := 1) (by decide) (show 0 ≤ _ ∧ _ < (321 : Int) by omega) (by first | assumption | omega) dX8_payToll_81 rfl (fun hR81 => ?_)
          refine z_aload_n (pc' := 83) X dX8_payToll_82 rfl rfl ?_
          refine z_iload_n (pc' := 84) X dX8_payToll_83 rfl rfl ?_
          refine z_V_fun1 (pc' := 87) X rfl Y_X8_debt q2139 dX8_payToll_84 rfl (by decide) (Nat.le_refl _) (Nat.le_refl _) (Nat.le_of_ble_eq_true rfl) (c_X8_debt _ _ _ _ _ (by first | assumption | omega)) (fun r84 hr84 hp84 => ?_)
          subst hp84
          refine z_ireturn X dX8_payToll_87 (Nat.le_refl _) (Nat.le_refl _) (fun _ hh => ⟨_, hh, _, rfl, ?_, ?_⟩)
          · first | assumption | omega
          · have hg0 : gPay A.1 c p = 0 := by unfold gPay; rw [if_neg (by omega), if_neg (by omega), if_neg (by omega)]
            rw [hg0]
            have hX := (hS2.set (z := A.1.1 (13 + 2 * c) - p) (show scI (13 + 2 * c) by unfold scI; omega)).set (z := A.1.1 1 + p) (show scI 1 by unfold scI; omega)
            exact ⟨by rw [mset_r (by decide), mset_r (by decide), hg54], Or.inr ⟨rfl, by unfold mDebt; rw [mset_k (by omega), mset_s], hA2.row hX (fun q hq => by rw [mset_r hq, mset_r hq])⟩⟩
        · exact absurd c48 (by decide)
      · refine z_iconst (pc' := 37) X dX8_payToll_36 rfl ?_
        refine z_goto (tgt := 41) X dX8_payToll_37 (by decide) ?_
        refine z_mput (pc' := 44) X 10 3 rfl (by decide) q2073 rfl rfl rfl (by first | assumption | omega) dX8_payToll_41 rfl (fun hR41 => ?_)
        refine z_aload_n (pc' := 45) X dX8_payToll_44 rfl rfl ?_
        have hv45 := hR41 0 3
        refine z_mget (pc' := 48) X 10 rfl (by decide) q2073 rfl dX8_payToll_45 rfl ?_
        rw [mset_s]
        rw [mset_s] at hv45
        refine z_if_le (tgt := 53) (pc' := 51) X (by first | assumption | omega) dX8_payToll_48 rfl (by decide) (fun c48 => ?_) (fun c48 => ?_)
        · exact absurd c48 (by decide)
        · refine z_iconst (pc' := 52) X dX8_payToll_51 rfl ?_
          refine z_ireturn X dX8_payToll_52 (Nat.le_refl _) (Nat.le_refl _) (fun _ hh => ⟨_, hh, _, rfl, ?_, ?_⟩)
          · first | assumption | omega
          · refine ⟨?_, Or.inl ⟨?_, hA.num (by decide)⟩⟩
            · rw [mset_s]; unfold gPay; (repeat' split) <;> omega
            · unfold gPay; (repeat' split) <;> omega
    · refine z_iconst (pc' := 24) X dX8_payToll_23 rfl ?_
      refine z_goto (tgt := 41) X dX8_payToll_24 (by decide) ?_
      refine z_mput (pc' := 44) X 10 3 rfl (by decide) q2073 rfl rfl rfl (by first | assumption | omega) dX8_payToll_41 rfl (fun hR41 => ?_)
      refine z_aload_n (pc' := 45) X dX8_payToll_44 rfl rfl ?_
      have hv45 := hR41 0 3
      refine z_mget (pc' := 48) X 10 rfl (by decide) q2073 rfl dX8_payToll_45 rfl ?_
      rw [mset_s]
      rw [mset_s] at hv45
      refine z_if_le (tgt := 53) (pc' := 51) X (by first | assumption | omega) dX8_payToll_48 rfl (by decide) (fun c48 => ?_) (fun c48 => ?_)
      · exact absurd c48 (by decide)
      · refine z_iconst (pc' := 52) X dX8_payToll_51 rfl ?_
        refine z_ireturn X dX8_payToll_52 (Nat.le_refl _) (Nat.le_refl _) (fun _ hh => ⟨_, hh, _, rfl, ?_, ?_⟩)
        · first | assumption | omega
        · refine ⟨?_, Or.inl ⟨?_, hA.num (by decide)⟩⟩
          · rw [mset_s]; unfold gPay; (repeat' split) <;> omega
          · unfold gPay; (repeat' split) <;> omega
  · refine z_iconst (pc' := 9) X dX8_payToll_8 rfl ?_
    refine z_goto (tgt := 41) X dX8_payToll_9 (by decide) ?_
    refine z_mput (pc' := 44) X 10 3 rfl (by decide) q2073 rfl rfl rfl (by first | assumption | omega) dX8_payToll_41 rfl (fun hR41 => ?_)
    refine z_aload_n (pc' := 45) X dX8_payToll_44 rfl rfl ?_
    have hv45 := hR41 0 3
    refine z_mget (pc' := 48) X 10 rfl (by decide) q2073 rfl dX8_payToll_45 rfl ?_
    rw [mset_s]
    rw [mset_s] at hv45
    refine z_if_le (tgt := 53) (pc' := 51) X (by first | assumption | omega) dX8_payToll_48 rfl (by decide) (fun c48 => ?_) (fun c48 => ?_)
    · exact absurd c48 (by decide)
    · refine z_iconst (pc' := 52) X dX8_payToll_51 rfl ?_
      refine z_ireturn X dX8_payToll_52 (Nat.le_refl _) (Nat.le_refl _) (fun _ hh => ⟨_, hh, _, rfl, ?_, ?_⟩)
      · first | assumption | omega
      · refine ⟨?_, Or.inl ⟨?_, hA.num (by decide)⟩⟩
        · rw [mset_s]; unfold gPay; (repeat' split) <;> omega
        · unfold gPay; (repeat' split) <;> omega
theorem Y_X8_givePass : zYV yX8_givePass cX8_givePass 3 (some .int) 2 := ⟨⟨q2171, q2172, q132, q2173⟩, by decide +kernel, by decide⟩
set_option maxRecDepth 100000 in
theorem c_X8_givePass (l : Launch) (g : zG) (ma : Nat → Nat) (M : MM) (c n : Int) (A : Ab) (P Q : Int) (hc : rng c) (hn : rng n) (hA : mRep M A) (hk : okA P Q A) (hP : P ≤ 900000) (hQ : Q ≤ 9000000) : mInt l yX8_givePass cX8_givePass 3 (some .int) 12 [vR (ma 0), vI c, vI n] g ma M (fun r M' => outP (gPas A.1 c n) A (A.1.1 (13 + 2 * c) + 3 * n) (svA A (pasS c n A.1)) r M') := by
  refine mInt.mk (L0 := [some (vR (ma 0)), some (vI c), some (vI n)]) (by decide) rfl (Nat.le_of_ble_eq_true rfl) rfl (fun C h hg hl hR X => ?_)
  subst hg hl
  obtain ⟨hS, hN, hH, hT⟩ := id hA
  obtain ⟨hkS, -, -, -⟩ := id hk
  obtain ⟨⟨kc1, -, kc3, kc4, kc5⟩, kb, kp, kq⟩ := id hkS
  have hI := hk.I hA hP hQ
  have hn := mI_n hI
  have hh0 : 0 ≤ M 0 0 ∧ M 0 0 ≤ 5 := ⟨by rw [hH.1]; omega, by rw [hH.1]; have := hH.2.1; omega⟩
  have s0 := sc_at hA (j := 0) (by unfold scI; omega)
  have s1 := sc_at hA (j := 1) (by unfold scI; omega)
  refine z_aload_n (pc' := 1) X dX8_givePass_0 rfl rfl ?_
  refine z_iload_n (pc' := 2) X dX8_givePass_1 rfl rfl ?_
  refine z_S_fun1 (pc' := 5) X Y_X8_isCarter q2120 dX8_givePass_2 rfl (by decide) (Nat.le_refl _) (Nat.le_refl _) (Nat.le_of_ble_eq_true rfl) (fun h _ => c_X8_isCarter _ _ _ _ (by first | assumption | omega)) (fun r2 hr2 hp2 => ?_)
  refine z_if_ne (tgt := 12) (pc' := 8) X (by first | assumption | omega) dX8_givePass_5 rfl (by decide) (fun c5 => ?_) (fun c5 => ?_)
  · refine z_iload_n (pc' := 13) X dX8_givePass_12 rfl rfl ?_
    refine z_iconst (pc' := 14) X dX8_givePass_13 rfl ?_
    refine z_bipush (pc' := 16) X dX8_givePass_14 rfl (by decide) ?_
    refine z_S_fun3 (pc' := 19) X Y_X8_in q2123 dX8_givePass_16 rfl (by decide) (Nat.le_refl _) (Nat.le_refl _) (Nat.le_of_ble_eq_true rfl) (fun h _ => c_X8_in _ _ _ _ _ _ (by first | assumption | omega) (by first | assumption | omega) (by first | assumption | omega)) (fun r16 hr16 hp16 => ?_)
    refine z_if_ne (tgt := 26) (pc' := 22) X (by first | assumption | omega) dX8_givePass_19 rfl (by decide) (fun c19 => ?_) (fun c19 => ?_)
    · refine z_aload_n (pc' := 27) X dX8_givePass_26 rfl rfl ?_
      refine z_iload_n (pc' := 28) X dX8_givePass_27 rfl rfl ?_
      refine z_V_fun1 (pc' := 31) X rfl Y_X8_debt q2139 dX8_givePass_28 rfl (by decide) (Nat.le_refl _) (Nat.le_refl _) (Nat.le_of_ble_eq_true rfl) (c_X8_debt _ _ _ _ _ (by first | assumption | omega)) (fun r28 hr28 hp28 => ?_)
      subst hp28
      rw [mDebt_S hS (by omega)]
      rw [mDebt_S hS (by omega)] at hr28
      have k28 := (kc3 c (by omega) (by omega)).1
      refine z_iconst (pc' := 32) X dX8_givePass_31 rfl ?_
      refine z_iload_n (pc' := 33) X dX8_givePass_32 rfl rfl ?_
      refine z_imul (pc' := 34) X dX8_givePass_33 rfl ?_
      refine z_iadd (pc' := 35) X dX8_givePass_34 rfl ?_
      refine z_sipush (pc' := 38) X dX8_givePass_35 rfl (by decide) ?_
      refine z_icmp_le (tgt := 45) (pc' := 41) X (by first | assumption | omega) (by first | assumption | omega) dX8_givePass_38 rfl (by decide) (fun c38 => ?_) (fun c38 => ?_)
      · refine z_iconst (pc' := 46) X dX8_givePass_45 rfl ?_
        refine z_mput (pc' := 49) X 10 3 rfl (by decide) q2073 rfl rfl rfl (by first | assumption | omega) dX8_givePass_46 rfl (fun hR46 => ?_)
        refine z_aload_n (pc' := 50) X dX8_givePass_49 rfl rfl ?_
        have hv50 := hR46 0 3
        refine z_mget (pc' := 53) X 10 rfl (by decide) q2073 rfl dX8_givePass_50 rfl ?_
        rw [mset_s]
        rw [mset_s] at hv50
        refine z_if_le (tgt := 58) (pc' := 56) X (by first | assumption | omega) dX8_givePass_53 rfl (by decide) (fun c53 => ?_) (fun c53 => ?_)
        · refine z_aload_n (pc' := 59) X dX8_givePass_58 rfl rfl ?_
          refine z_V_void0 (pc' := 62) X rfl Y_X8_saves q2151 dX8_givePass_59 rfl (by decide) (Nat.le_refl _) (Nat.le_refl _) (Nat.le_of_ble_eq_true rfl) (c_X8_saves _ _ _ _ (by rw [mset_k (by decide)]; exact hh0)) (fun M59 hp59 hR59 => ?_)
          have hg59 := mThr hp59
          have hA2 := (hA.num (k := 3) (by decide)).saved hp59
          have hS2 := hA2.1
          refine z_aload_n (pc' := 63) X dX8_givePass_62 rfl rfl ?_
          refine z_mget (pc' := 66) X 0 rfl (by decide) q2063 rfl dX8_givePass_63 rfl ?_
          refine z_bipush (pc' := 68) X dX8_givePass_66 rfl (by decide) ?_
          refine z_iconst (pc' := 69) X dX8_givePass_68 rfl ?_
          refine z_iload_n (pc' := 70) X dX8_givePass_69 rfl rfl ?_
          refine z_imul (pc' := 71) X dX8_givePass_70 rfl ?_
          refine z_iadd (pc' := 72) X dX8_givePass_71 rfl ?_
          refine z_dup2 (pc' := 73) X rfl rfl dX8_givePass_72 rfl ?_
          refine z_mld (pc' := 74) X (r := 1) (by decide) (show 0 ≤ _ ∧ _ < (321 : Int) by omega) dX8_givePass_73 rfl (fun hv73 => ?_)
          have e73 : M59 1 (13 + 2 * c) = A.1.1 (13 + 2 * c) := hS2.1 _ (by unfold scI; omega)
          rw [e73]
          rw [e73] at hv73
          have k73 := (kc3 c (by omega) (by omega)).1
          refine z_iconst (pc' := 75) X dX8_givePass_74 rfl ?_
          refine z_iload_n (pc' := 76) X dX8_givePass_75 rfl rfl ?_
          refine z_imul (pc' := 77) X dX8_givePass_76 rfl ?_
          refine z_iadd (pc' := 78) X dX8_givePass_77 rfl ?_
          refine z_mst (pc' := 79) X (r := 1) (by decide) (show 0 ≤ _ ∧ _ < (321 : Int) by omega) (by first | assumption | omega) dX8_givePass_78 rfl (fun hR78 => ?_)
          refine z_aload_n (pc' := 80) X dX8_givePass_79 rfl rfl ?_
          refine z_mget (pc' := 83) X 0 rfl (by decide) q2063 rfl dX8_givePass_80 rfl ?_
          refine z_bipush (pc' := 85) X dX8_givePass_83 rfl (by decide) ?_
          refine z_iconst (pc' := 86) X dX8_givePass_85 rfl ?_
          refine z_iload_n (pc' := 87) X dX8_givePass_86 rfl rfl ?_
          refine z_imul (pc' := 88) X dX8_givePass_87 rfl ?_
          refine z_iadd (pc' := 89) X dX8_givePass_88 rfl ?_
          refine z_iconst (pc' := 90) X dX8_givePass_89 rfl ?_
          refine z_iadd (pc' := 91) X dX8_givePass_90 rfl ?_
          refine z_aload_n (pc' := 92) X dX8_givePass_91 rfl rfl ?_
          refine z_mget (pc' := 95) X 0 rfl (by decide) q2063 rfl dX8_givePass_92 rfl ?_
          refine z_iconst (pc' := 96) X dX8_givePass_95 rfl ?_
          refine z_mld (pc' := 97) X (r := 1) (by decide) (show 0 ≤ _ ∧ _ < (321 : Int) by omega) dX8_givePass_96 rfl (fun hv96 => ?_)
          have e96 : M59 1 0 = A.1.1 0 := hS2.1 _ (by unfold scI; omega)
          rw [mset_k (by omega), e96]
          rw [mset_k (by omega), e96] at hv96
          refine z_iload_n (pc' := 98) X dX8_givePass_97 rfl rfl ?_
          refine z_iadd (pc' := 99) X dX8_givePass_98 rfl ?_
          refine z_iconst (pc' := 100) X dX8_givePass_99 rfl ?_
          refine z_isub (pc' := 101) X dX8_givePass_100 rfl ?_
          refine z_mst (pc' := 102) X (r := 1) (by decide) (show 0 ≤ _ ∧ _ < (321 : Int) by omega) (by first | assumption | omega) dX8_givePass_101 rfl (fun hR101 => ?_)
          refine z_aload_n (pc' := 103) X dX8_givePass_102 rfl rfl ?_
          refine z_iload_n (pc' := 104) X dX8_givePass_103 rfl rfl ?_
          refine z_V_fun1 (pc' := 107) X rfl Y_X8_debt q2139 dX8_givePass_104 rfl (by decide) (Nat.le_refl _) (Nat.le_refl _) (Nat.le_of_ble_eq_true rfl) (c_X8_debt _ _ _ _ _ (by first | assumption | omega)) (fun r104 hr104 hp104 => ?_)
          subst hp104
          refine z_ireturn X dX8_givePass_107 (Nat.le_refl _) (Nat.le_refl _) (fun _ hh => ⟨_, hh, _, rfl, ?_, ?_⟩)
          · first | assumption | omega
          · have hg0 : gPas A.1 c n = 0 := by unfold gPas; rw [if_neg (by omega), if_neg (by omega), if_neg (by omega)]
            rw [hg0]
            have hX := (hS2.set (z := A.1.1 (13 + 2 * c) + 3 * n) (show scI (13 + 2 * c) by unfold scI; omega)).set (z := A.1.1 0 + n - 1) (show scI (13 + 2 * c + 1) by unfold scI; omega)
            exact ⟨by rw [mset_r (by decide), mset_r (by decide), hg59], Or.inr ⟨rfl, by unfold mDebt; rw [mset_k (by omega), mset_s], hA2.row hX (fun q hq => by rw [mset_r hq, mset_r hq])⟩⟩
        · exact absurd c53 (by decide)
      · refine z_iconst (pc' := 42) X dX8_givePass_41 rfl ?_
        refine z_goto (tgt := 46) X dX8_givePass_42 (by decide) ?_
        refine z_mput (pc' := 49) X 10 3 rfl (by decide) q2073 rfl rfl rfl (by first | assumption | omega) dX8_givePass_46 rfl (fun hR46 => ?_)
        refine z_aload_n (pc' := 50) X dX8_givePass_49 rfl rfl ?_
        have hv50 := hR46 0 3
        refine z_mget (pc' := 53) X 10 rfl (by decide) q2073 rfl dX8_givePass_50 rfl ?_
        rw [mset_s]
        rw [mset_s] at hv50
        refine z_if_le (tgt := 58) (pc' := 56) X (by first | assumption | omega) dX8_givePass_53 rfl (by decide) (fun c53 => ?_) (fun c53 => ?_)
        · exact absurd c53 (by decide)
        · refine z_iconst (pc' := 57) X dX8_givePass_56 rfl ?_
          refine z_ireturn X dX8_givePass_57 (Nat.le_refl _) (Nat.le_refl _) (fun _ hh => ⟨_, hh, _, rfl, ?_, ?_⟩)
          · first | assumption | omega
          · refine ⟨?_, Or.inl ⟨?_, hA.num (by decide)⟩⟩
            · rw [mset_s]; unfold gPas; (repeat' split) <;> omega
            · unfold gPas; (repeat' split) <;> omega
    · refine z_iconst (pc' := 23) X dX8_givePass_22 rfl ?_
      refine z_goto (tgt := 46) X dX8_givePass_23 (by decide) ?_
      refine z_mput (pc' := 49) X 10 3 rfl (by decide) q2073 rfl rfl rfl (by first | assumption | omega) dX8_givePass_46 rfl (fun hR46 => ?_)
      refine z_aload_n (pc' := 50) X dX8_givePass_49 rfl rfl ?_
      have hv50 := hR46 0 3
      refine z_mget (pc' := 53) X 10 rfl (by decide) q2073 rfl dX8_givePass_50 rfl ?_
      rw [mset_s]
      rw [mset_s] at hv50
      refine z_if_le (tgt := 58) (pc' := 56) X (by first | assumption | omega) dX8_givePass_53 rfl (by decide) (fun c53 => ?_) (fun c53 => ?_)
      · exact absurd c53 (by decide)
      · refine z_iconst (pc' := 57) X dX8_givePass_56 rfl ?_
        refine z_ireturn X dX8_givePass_57 (Nat.le_refl _) (Nat.le_refl _) (fun _ hh => ⟨_, hh, _, rfl, ?_, ?_⟩)
        · first | assumption | omega
        · refine ⟨?_, Or.inl ⟨?_, hA.num (by decide)⟩⟩
          · rw [mset_s]; unfold gPas; (repeat' split) <;> omega
          · unfold gPas; (repeat' split) <;> omega
  · refine z_iconst (pc' := 9) X dX8_givePass_8 rfl ?_
    refine z_goto (tgt := 46) X dX8_givePass_9 (by decide) ?_
    refine z_mput (pc' := 49) X 10 3 rfl (by decide) q2073 rfl rfl rfl (by first | assumption | omega) dX8_givePass_46 rfl (fun hR46 => ?_)
    refine z_aload_n (pc' := 50) X dX8_givePass_49 rfl rfl ?_
    have hv50 := hR46 0 3
    refine z_mget (pc' := 53) X 10 rfl (by decide) q2073 rfl dX8_givePass_50 rfl ?_
    rw [mset_s]
    rw [mset_s] at hv50
    refine z_if_le (tgt := 58) (pc' := 56) X (by first | assumption | omega) dX8_givePass_53 rfl (by decide) (fun c53 => ?_) (fun c53 => ?_)
    · exact absurd c53 (by decide)
    · refine z_iconst (pc' := 57) X dX8_givePass_56 rfl ?_
      refine z_ireturn X dX8_givePass_57 (Nat.le_refl _) (Nat.le_refl _) (fun _ hh => ⟨_, hh, _, rfl, ?_, ?_⟩)
      · first | assumption | omega
      · refine ⟨?_, Or.inl ⟨?_, hA.num (by decide)⟩⟩
        · rw [mset_s]; unfold gPas; (repeat' split) <;> omega
        · unfold gPas; (repeat' split) <;> omega
end M10
