/-! THE STATE copied -/
section ZSTATE3
theorem Y_X2_copy : zYV yX2_copy cX2_copy 3 (some (.object "PaperMill$State")) 0 := ⟨⟨q616, q617, q113, q618⟩, by decide +kernel, by decide⟩
set_option maxRecDepth 100000 in
theorem c_X2_copy (l : Launch) (g : zG) (h : GH) (sh : Sh) (f : Int → Int) (rc : Nat) (Ls : Nat → ELs) (w : rW g.2.2 h sh (f, rc, Ls)) (hl : ∀ i, i < 6 → (Ls i).length ≤ 40) (hm : ∀ p ∈ Ls 1, p.2.2.2.2.2 = 0 ∨ p.2.2.2.2.2 = 1) : zMet l yX2_copy cX2_copy 3 (some (.object "PaperMill$State")) 11 600 17000 [vR sh.1] g h (fun v h' => ∃ q : Nat, v = some (vR q) ∧ ∃ (sh' : Sh) (Ls' : Nat → ELs), sh'.1 = q ∧ rX g.2.2 h noF sh' (f, rc, Ls') h' ∧ ∀ i, i < 6 → (Ls' i).map Prod.snd = (Ls i).map Prod.snd) := by
  refine zMet.mk (L0 := [some (vR sh.1), none, none]) (by decide) rfl (Nat.le_of_ble_eq_true rfl) rfl (fun C hg hl hnm X => ?_)
  subst hg hl
  have hl0 := hl 0 (by decide)
  have hl1 := hl 1 (by decide)
  have hl2 := hl 2 (by decide)
  have hl3 := hl 3 (by decide)
  have hl4 := hl 4 (by decide)
  have hl5 := hl 5 (by decide)
  refine z_new1 (pc' := 3) X (ci := 1) (fs := [vI 0, vI 0, vI 0, vI 0, Value.null, vI 0, vI 0, vI 0, vI 0, vI 0, vI 0, Value.null, Value.null, Value.null, Value.null, Value.null, Value.null]) in_X2 tyX2 tyX2_ok q165 q166 q113 rfl df_X2 dX2_copy_0 rfl (by omega) (by omega) (fun q1 h1 n1 e1 => ?_)
  have g1 := (congrFun e1 q1).trans hset_s
  refine z_dup (pc' := 4) X rfl dX2_copy_3 rfl ?_
  refine z_callI1 (pc' := 7) X Y_X2_init q167 dX2_copy_4 rfl (Nat.le_of_ble_eq_true rfl) (by omega) (by omega) rfl rfl (Nat.le_of_ble_eq_true rfl) (c_X2_init _ _ _ (q1) g1) (fun v2 h2 p2 => ?_)
  obtain ⟨ev2, p2⟩ := p2
  subst ev2
  dsimp only [zst]
  obtain ⟨⟨A2, LL2, AR2⟩, rc2, ha2, hx2⟩ := p2
  rw [show A2 = q1 from ha2] at hx2
  have hX2 := rX.born n1 e1 hx2
  refine z_astore_n (pc' := 8) X dX2_copy_7 rfl (by decide) rfl ?_
  dsimp only [List.set]
  refine z_aload_n (pc' := 9) X dX2_copy_8 rfl rfl ?_
  refine z_aload_n (pc' := 10) X dX2_copy_9 rfl rfl ?_
  refine z_get1 (pc' := 13) (kf := 0) X in_X2 rfl (by decide) q212 (Or.inl rfl) (w.at hX2).stA rfl dX2_copy_10 rfl ?_
  refine z_put1 (pc' := 16) (kf := 0) X in_X2 tyX2 tyX2_ok nmX2 rfl (by decide) q212 (Or.inl rfl) rfl rfl rfl (Nat.le_of_ble_eq_true rfl) hX2.stA dX2_copy_13 rfl (fun h3 e3 => ?_)
  have hX3 : rX (zg C).2.2 h noF (q1, LL2, AR2) ((iup fI 0 (f 0)), rc2, (fun _ => [])) h3 := by rw [e3]; exact hX2.num0
  refine z_aload_n (pc' := 17) X dX2_copy_16 rfl rfl ?_
  refine z_aload_n (pc' := 18) X dX2_copy_17 rfl rfl ?_
  refine z_get1 (pc' := 21) (kf := 1) X in_X2 rfl (by decide) q214 (Or.inl rfl) (w.at hX3).stA rfl dX2_copy_18 rfl ?_
  refine z_put1 (pc' := 24) (kf := 1) X in_X2 tyX2 tyX2_ok nmX2 rfl (by decide) q214 (Or.inl rfl) rfl rfl rfl (Nat.le_of_ble_eq_true rfl) hX3.stA dX2_copy_21 rfl (fun h4 e4 => ?_)
  have hX4 : rX (zg C).2.2 h noF (q1, LL2, AR2) ((iup (iup fI 0 (f 0)) 1 (f 1)), rc2, (fun _ => [])) h4 := by rw [e4]; exact hX3.num1
  refine z_aload_n (pc' := 25) X dX2_copy_24 rfl rfl ?_
  refine z_aload_n (pc' := 26) X dX2_copy_25 rfl rfl ?_
  refine z_get1 (pc' := 29) (kf := 2) X in_X2 rfl (by decide) q216 (Or.inl rfl) (w.at hX4).stA rfl dX2_copy_26 rfl ?_
  refine z_put1 (pc' := 32) (kf := 2) X in_X2 tyX2 tyX2_ok nmX2 rfl (by decide) q216 (Or.inl rfl) rfl rfl rfl (Nat.le_of_ble_eq_true rfl) hX4.stA dX2_copy_29 rfl (fun h5 e5 => ?_)
  have hX5 : rX (zg C).2.2 h noF (q1, LL2, AR2) ((iup (iup (iup fI 0 (f 0)) 1 (f 1)) 3 (f 3)), rc2, (fun _ => [])) h5 := by rw [e5]; exact hX4.num2
  refine z_aload_n (pc' := 33) X dX2_copy_32 rfl rfl ?_
  refine z_aload_n (pc' := 34) X dX2_copy_33 rfl rfl ?_
  refine z_get1 (pc' := 37) (kf := 3) X in_X2 rfl (by decide) q218 (Or.inl rfl) (w.at hX5).stA rfl dX2_copy_34 rfl ?_
  refine z_put1 (pc' := 40) (kf := 3) X in_X2 tyX2 tyX2_ok nmX2 rfl (by decide) q218 (Or.inl rfl) rfl rfl rfl (Nat.le_of_ble_eq_true rfl) hX5.stA dX2_copy_37 rfl (fun h6 e6 => ?_)
  have hX6 : rX (zg C).2.2 h noF (q1, LL2, AR2) ((iup (iup (iup (iup fI 0 (f 0)) 1 (f 1)) 3 (f 3)) 2 (f 2)), rc2, (fun _ => [])) h6 := by rw [e6]; exact hX5.num3
  refine z_aload_n (pc' := 41) X dX2_copy_40 rfl rfl ?_
  refine z_aload_n (pc' := 42) X dX2_copy_41 rfl rfl ?_
  refine z_get1 (pc' := 45) (kf := 4) X in_X2 rfl (by decide) q220 (Or.inl rfl) (w.at hX6).stA rfl dX2_copy_42 rfl ?_
  refine z_put1 (pc' := 48) (kf := 4) X in_X2 tyX2 tyX2_ok nmX2 rfl (by decide) q220 (Or.inl rfl) rfl rfl rfl (Nat.le_of_ble_eq_true rfl) hX6.stA dX2_copy_45 rfl (fun h7 e7 => ?_)
  have hX7 : rX (zg C).2.2 h noF (q1, LL2, AR2) ((fun j => if 8 ≤ j ∧ j ≤ 12 then f j else (iup (iup (iup (iup fI 0 (f 0)) 1 (f 1)) 3 (f 3)) 2 (f 2)) j), rc, (fun _ => [])) h7 := by rw [e7]; exact hX6.num (fun j => if 8 ≤ j ∧ j ≤ 12 then f j else (iup (iup (iup (iup fI 0 (f 0)) 1 (f 1)) 3 (f 3)) 2 (f 2)) j) rc rfl ((w.at hX6).1.2.2.2.2.2.2.congr (fun j u v => if_pos (by omega)) (if_pos (by decide)))
  refine z_aload_n (pc' := 49) X dX2_copy_48 rfl rfl ?_
  refine z_aload_n (pc' := 50) X dX2_copy_49 rfl rfl ?_
  refine z_get1 (pc' := 53) (kf := 5) X in_X2 rfl (by decide) q223 (Or.inl rfl) (w.at hX7).stA rfl dX2_copy_50 rfl ?_
  refine z_put1 (pc' := 56) (kf := 5) X in_X2 tyX2 tyX2_ok nmX2 rfl (by decide) q223 (Or.inl rfl) rfl rfl rfl (Nat.le_of_ble_eq_true rfl) hX7.stA dX2_copy_53 rfl (fun h8 e8 => ?_)
  have hX8 : rX (zg C).2.2 h noF (q1, LL2, AR2) ((iup (fun j => if 8 ≤ j ∧ j ≤ 12 then f j else (iup (iup (iup (iup fI 0 (f 0)) 1 (f 1)) 3 (f 3)) 2 (f 2)) j) 201 (f 201)), rc, (fun _ => [])) h8 := by rw [e8]; exact hX7.num5
  refine z_aload_n (pc' := 57) X dX2_copy_56 rfl rfl ?_
  refine z_aload_n (pc' := 58) X dX2_copy_57 rfl rfl ?_
  refine z_get1 (pc' := 61) (kf := 6) X in_X2 rfl (by decide) q224 (Or.inl rfl) (w.at hX8).stA rfl dX2_copy_58 rfl ?_
  refine z_put1 (pc' := 64) (kf := 6) X in_X2 tyX2 tyX2_ok nmX2 rfl (by decide) q224 (Or.inl rfl) rfl rfl rfl (Nat.le_of_ble_eq_true rfl) hX8.stA dX2_copy_61 rfl (fun h9 e9 => ?_)
  have hX9 : rX (zg C).2.2 h noF (q1, LL2, AR2) ((iup (iup (fun j => if 8 ≤ j ∧ j ≤ 12 then f j else (iup (iup (iup (iup fI 0 (f 0)) 1 (f 1)) 3 (f 3)) 2 (f 2)) j) 201 (f 201)) 202 (f 202)), rc, (fun _ => [])) h9 := by rw [e9]; exact hX8.num6
  refine z_aload_n (pc' := 65) X dX2_copy_64 rfl rfl ?_
  refine z_aload_n (pc' := 66) X dX2_copy_65 rfl rfl ?_
  refine z_get1 (pc' := 69) (kf := 7) X in_X2 rfl (by decide) q226 (Or.inl rfl) (w.at hX9).stA rfl dX2_copy_66 rfl ?_
  refine z_put1 (pc' := 72) (kf := 7) X in_X2 tyX2 tyX2_ok nmX2 rfl (by decide) q226 (Or.inl rfl) rfl rfl rfl (Nat.le_of_ble_eq_true rfl) hX9.stA dX2_copy_69 rfl (fun h10 e10 => ?_)
  have hX10 : rX (zg C).2.2 h noF (q1, LL2, AR2) ((iup (iup (iup (fun j => if 8 ≤ j ∧ j ≤ 12 then f j else (iup (iup (iup (iup fI 0 (f 0)) 1 (f 1)) 3 (f 3)) 2 (f 2)) j) 201 (f 201)) 202 (f 202)) 203 (f 203)), rc, (fun _ => [])) h10 := by rw [e10]; exact hX9.num7
  refine z_aload_n (pc' := 73) X dX2_copy_72 rfl rfl ?_
  refine z_aload_n (pc' := 74) X dX2_copy_73 rfl rfl ?_
  refine z_get1 (pc' := 77) (kf := 8) X in_X2 rfl (by decide) q228 (Or.inl rfl) (w.at hX10).stA rfl dX2_copy_74 rfl ?_
  refine z_put1 (pc' := 80) (kf := 8) X in_X2 tyX2 tyX2_ok nmX2 rfl (by decide) q228 (Or.inl rfl) rfl rfl rfl (Nat.le_of_ble_eq_true rfl) hX10.stA dX2_copy_77 rfl (fun h11 e11 => ?_)
  have hX11 : rX (zg C).2.2 h noF (q1, LL2, AR2) ((iup (iup (iup (iup (fun j => if 8 ≤ j ∧ j ≤ 12 then f j else (iup (iup (iup (iup fI 0 (f 0)) 1 (f 1)) 3 (f 3)) 2 (f 2)) j) 201 (f 201)) 202 (f 202)) 203 (f 203)) 204 (f 204)), rc, (fun _ => [])) h11 := by rw [e11]; exact hX10.num8
  refine z_aload_n (pc' := 81) X dX2_copy_80 rfl rfl ?_
  refine z_aload_n (pc' := 82) X dX2_copy_81 rfl rfl ?_
  refine z_get1 (pc' := 85) (kf := 9) X in_X2 rfl (by decide) q230 (Or.inl rfl) (w.at hX11).stA rfl dX2_copy_82 rfl ?_
  refine z_put1 (pc' := 88) (kf := 9) X in_X2 tyX2 tyX2_ok nmX2 rfl (by decide) q230 (Or.inl rfl) rfl rfl rfl (Nat.le_of_ble_eq_true rfl) hX11.stA dX2_copy_85 rfl (fun h12 e12 => ?_)
  have hX12 : rX (zg C).2.2 h noF (q1, LL2, AR2) ((iup (iup (iup (iup (iup (fun j => if 8 ≤ j ∧ j ≤ 12 then f j else (iup (iup (iup (iup fI 0 (f 0)) 1 (f 1)) 3 (f 3)) 2 (f 2)) j) 201 (f 201)) 202 (f 202)) 203 (f 203)) 204 (f 204)) 7 (f 7)), rc, (fun _ => [])) h12 := by rw [e12]; exact hX11.num9
  refine z_aload_n (pc' := 89) X dX2_copy_88 rfl rfl ?_
  refine z_aload_n (pc' := 90) X dX2_copy_89 rfl rfl ?_
  refine z_get1 (pc' := 93) (kf := 10) X in_X2 rfl (by decide) q232 (Or.inl rfl) (w.at hX12).stA rfl dX2_copy_90 rfl ?_
  refine z_put1 (pc' := 96) (kf := 10) X in_X2 tyX2 tyX2_ok nmX2 rfl (by decide) q232 (Or.inl rfl) rfl rfl rfl (Nat.le_of_ble_eq_true rfl) hX12.stA dX2_copy_93 rfl (fun h13 e13 => ?_)
  have hX13 : rX (zg C).2.2 h noF (q1, LL2, AR2) ((iup (iup (iup (iup (iup (iup (fun j => if 8 ≤ j ∧ j ≤ 12 then f j else (iup (iup (iup (iup fI 0 (f 0)) 1 (f 1)) 3 (f 3)) 2 (f 2)) j) 201 (f 201)) 202 (f 202)) 203 (f 203)) 204 (f 204)) 7 (f 7)) 205 (f 205)), rc, (fun _ => [])) h13 := by rw [e13]; exact hX12.num10
  refine z_iconst (pc' := 97) X dX2_copy_96 rfl ?_
  refine z_istore_n (pc' := 98) X dX2_copy_97 rfl (by decide) rfl ?_
  dsimp only [List.set]
  have loop98 : ∀ (N : Nat) (k98 : Int) (ar98 : Nat → Option Nat) (ps98 : ELs) (h98l : GH), (0 ≤ k98 ∧ k98 ≤ ((Ls 0).length : Int)) → (rX (zg C).2.2 h noF (q1, LL2, ar98) (f, rc, lup (fun _ => []) 0 ps98) h98l) → (ps98.map Prod.snd = ((Ls 0).take k98.toNat).map Prod.snd) → (((Ls 0).length : Int) - k98).toNat < N → ZP C 3 (zAt h98l) (8 + 2 * k98.toNat) (37 + 65 * k98.toNat) [some (vR sh.1), some (vR q1), some (vI k98)] 98 [] := by
    intro N
    induction N with
    | zero => intro k98 ar98 ps98 h98l hk98 hX98l hs98 hN; exact absurd hN (Nat.not_lt_zero _)
    | succ N ih98 =>
      intro k98 ar98 ps98 h98l hk98 hX98l hs98 hN
      have hl98 := tk_len hs98 hk98.2
      have hb98 := hl 0 (by decide)
      refine z_iload_n (pc' := 99) X dX2_copy_98 rfl rfl ?_
      refine z_aload_n (pc' := 100) X dX2_copy_99 rfl rfl ?_
      refine z_get1 (pc' := 103) (kf := 11) X in_X2 rfl (by decide) q234 (Or.inl rfl) (w.at hX98l).stA rfl dX2_copy_100 rfl ?_
      refine z_rsize (pc' := 108) X q547 (w.at hX98l) (i := 0) (by decide) dX2_copy_103 rfl (by decide) (Nat.le_of_ble_eq_true rfl) (by omega) (by omega) ?_
      refine z_icmp_ge (tgt := 143) (pc' := 111) X (by first | assumption | omega) (by first | assumption | omega) dX2_copy_108 rfl (by decide) (fun c108 => ?_) (fun c108 => ?_)
      · refine z_iconst (pc' := 144) X dX2_copy_143 rfl ?_
        refine z_istore_n (pc' := 145) X dX2_copy_144 rfl (by decide) rfl ?_
        dsimp only [List.set]
        have loop145 : ∀ (N : Nat) (k145 : Int) (ar145 : Nat → Option Nat) (ps145 : ELs) (h145l : GH), (0 ≤ k145 ∧ k145 ≤ ((Ls 1).length : Int)) → (rX (zg C).2.2 h noF (q1, LL2, ar145) (f, rc, lup (lup (fun _ => []) 0 ps98) 1 ps145) h145l) → (ps145.map Prod.snd = ((Ls 1).take k145.toNat).map Prod.snd) → (((Ls 1).length : Int) - k145).toNat < N → ZP C 3 (zAt h145l) (88 + 2 * k145.toNat) (2637 + 65 * k145.toNat) [some (vR sh.1), some (vR q1), some (vI k145)] 145 [] := by
          intro N
          induction N with
          | zero => intro k145 ar145 ps145 h145l hk145 hX145l hs145 hN; exact absurd hN (Nat.not_lt_zero _)
          | succ N ih145 =>
            intro k145 ar145 ps145 h145l hk145 hX145l hs145 hN
            have hl145 := tk_len hs145 hk145.2
            have hb145 := hl 1 (by decide)
            refine z_iload_n (pc' := 146) X dX2_copy_145 rfl rfl ?_
            refine z_aload_n (pc' := 147) X dX2_copy_146 rfl rfl ?_
            refine z_get1 (pc' := 150) (kf := 12) X in_X2 rfl (by decide) q236 (Or.inl rfl) (w.at hX145l).stA rfl dX2_copy_147 rfl ?_
            refine z_rsize (pc' := 155) X q547 (w.at hX145l) (i := 1) (by decide) dX2_copy_150 rfl (by decide) (Nat.le_of_ble_eq_true rfl) (by omega) (by omega) ?_
            refine z_icmp_ge (tgt := 190) (pc' := 158) X (by first | assumption | omega) (by first | assumption | omega) dX2_copy_155 rfl (by decide) (fun c155 => ?_) (fun c155 => ?_)
            · refine z_iconst (pc' := 191) X dX2_copy_190 rfl ?_
              refine z_istore_n (pc' := 192) X dX2_copy_191 rfl (by decide) rfl ?_
              dsimp only [List.set]
              have loop192 : ∀ (N : Nat) (k192 : Int) (ar192 : Nat → Option Nat) (ps192 : ELs) (h192l : GH), (0 ≤ k192 ∧ k192 ≤ ((Ls 2).length : Int)) → (rX (zg C).2.2 h noF (q1, LL2, ar192) (f, rc, lup (lup (lup (fun _ => []) 0 ps98) 1 ps145) 2 ps192) h192l) → (ps192.map Prod.snd = ((Ls 2).take k192.toNat).map Prod.snd) → (((Ls 2).length : Int) - k192).toNat < N → ZP C 3 (zAt h192l) (168 + 2 * k192.toNat) (5237 + 65 * k192.toNat) [some (vR sh.1), some (vR q1), some (vI k192)] 192 [] := by
                intro N
                induction N with
                | zero => intro k192 ar192 ps192 h192l hk192 hX192l hs192 hN; exact absurd hN (Nat.not_lt_zero _)
                | succ N ih192 =>
                  intro k192 ar192 ps192 h192l hk192 hX192l hs192 hN
                  have hl192 := tk_len hs192 hk192.2
                  have hb192 := hl 2 (by decide)
                  refine z_iload_n (pc' := 193) X dX2_copy_192 rfl rfl ?_
                  refine z_aload_n (pc' := 194) X dX2_copy_193 rfl rfl ?_
                  refine z_get1 (pc' := 197) (kf := 13) X in_X2 rfl (by decide) q238 (Or.inl rfl) (w.at hX192l).stA rfl dX2_copy_194 rfl ?_
                  refine z_rsize (pc' := 202) X q547 (w.at hX192l) (i := 2) (by decide) dX2_copy_197 rfl (by decide) (Nat.le_of_ble_eq_true rfl) (by omega) (by omega) ?_
                  refine z_icmp_ge (tgt := 237) (pc' := 205) X (by first | assumption | omega) (by first | assumption | omega) dX2_copy_202 rfl (by decide) (fun c202 => ?_) (fun c202 => ?_)
                  · refine z_iconst (pc' := 238) X dX2_copy_237 rfl ?_
                    refine z_istore_n (pc' := 239) X dX2_copy_238 rfl (by decide) rfl ?_
                    dsimp only [List.set]
                    have loop239 : ∀ (N : Nat) (k239 : Int) (ar239 : Nat → Option Nat) (ps239 : ELs) (h239l : GH), (0 ≤ k239 ∧ k239 ≤ ((Ls 3).length : Int)) → (rX (zg C).2.2 h noF (q1, LL2, ar239) (f, rc, lup (lup (lup (lup (fun _ => []) 0 ps98) 1 ps145) 2 ps192) 3 ps239) h239l) → (ps239.map Prod.snd = ((Ls 3).take k239.toNat).map Prod.snd) → (((Ls 3).length : Int) - k239).toNat < N → ZP C 3 (zAt h239l) (248 + 2 * k239.toNat) (7837 + 65 * k239.toNat) [some (vR sh.1), some (vR q1), some (vI k239)] 239 [] := by
                      intro N
                      induction N with
                      | zero => intro k239 ar239 ps239 h239l hk239 hX239l hs239 hN; exact absurd hN (Nat.not_lt_zero _)
                      | succ N ih239 =>
                        intro k239 ar239 ps239 h239l hk239 hX239l hs239 hN
                        have hl239 := tk_len hs239 hk239.2
                        have hb239 := hl 3 (by decide)
                        refine z_iload_n (pc' := 240) X dX2_copy_239 rfl rfl ?_
                        refine z_aload_n (pc' := 241) X dX2_copy_240 rfl rfl ?_
                        refine z_get1 (pc' := 244) (kf := 14) X in_X2 rfl (by decide) q240 (Or.inl rfl) (w.at hX239l).stA rfl dX2_copy_241 rfl ?_
                        refine z_rsize (pc' := 249) X q547 (w.at hX239l) (i := 3) (by decide) dX2_copy_244 rfl (by decide) (Nat.le_of_ble_eq_true rfl) (by omega) (by omega) ?_
                        refine z_icmp_ge (tgt := 284) (pc' := 252) X (by first | assumption | omega) (by first | assumption | omega) dX2_copy_249 rfl (by decide) (fun c249 => ?_) (fun c249 => ?_)
                        · refine z_iconst (pc' := 285) X dX2_copy_284 rfl ?_
                          refine z_istore_n (pc' := 286) X dX2_copy_285 rfl (by decide) rfl ?_
                          dsimp only [List.set]
                          have loop286 : ∀ (N : Nat) (k286 : Int) (ar286 : Nat → Option Nat) (ps286 : ELs) (h286l : GH), (0 ≤ k286 ∧ k286 ≤ ((Ls 4).length : Int)) → (rX (zg C).2.2 h noF (q1, LL2, ar286) (f, rc, lup (lup (lup (lup (lup (fun _ => []) 0 ps98) 1 ps145) 2 ps192) 3 ps239) 4 ps286) h286l) → (ps286.map Prod.snd = ((Ls 4).take k286.toNat).map Prod.snd) → (((Ls 4).length : Int) - k286).toNat < N → ZP C 3 (zAt h286l) (328 + 2 * k286.toNat) (10437 + 65 * k286.toNat) [some (vR sh.1), some (vR q1), some (vI k286)] 286 [] := by
                            intro N
                            induction N with
                            | zero => intro k286 ar286 ps286 h286l hk286 hX286l hs286 hN; exact absurd hN (Nat.not_lt_zero _)
                            | succ N ih286 =>
                              intro k286 ar286 ps286 h286l hk286 hX286l hs286 hN
                              have hl286 := tk_len hs286 hk286.2
                              have hb286 := hl 4 (by decide)
                              refine z_iload_n (pc' := 287) X dX2_copy_286 rfl rfl ?_
                              refine z_aload_n (pc' := 288) X dX2_copy_287 rfl rfl ?_
                              refine z_get1 (pc' := 291) (kf := 15) X in_X2 rfl (by decide) q242 (Or.inl rfl) (w.at hX286l).stA rfl dX2_copy_288 rfl ?_
                              refine z_rsize (pc' := 296) X q547 (w.at hX286l) (i := 4) (by decide) dX2_copy_291 rfl (by decide) (Nat.le_of_ble_eq_true rfl) (by omega) (by omega) ?_
                              refine z_icmp_ge (tgt := 331) (pc' := 299) X (by first | assumption | omega) (by first | assumption | omega) dX2_copy_296 rfl (by decide) (fun c296 => ?_) (fun c296 => ?_)
                              · refine z_iconst (pc' := 332) X dX2_copy_331 rfl ?_
                                refine z_istore_n (pc' := 333) X dX2_copy_332 rfl (by decide) rfl ?_
                                dsimp only [List.set]
                                have loop333 : ∀ (N : Nat) (k333 : Int) (ar333 : Nat → Option Nat) (ps333 : ELs) (h333l : GH), (0 ≤ k333 ∧ k333 ≤ ((Ls 5).length : Int)) → (rX (zg C).2.2 h noF (q1, LL2, ar333) (f, rc, lup (lup (lup (lup (lup (lup (fun _ => []) 0 ps98) 1 ps145) 2 ps192) 3 ps239) 4 ps286) 5 ps333) h333l) → (ps333.map Prod.snd = ((Ls 5).take k333.toNat).map Prod.snd) → (((Ls 5).length : Int) - k333).toNat < N → ZP C 3 (zAt h333l) (408 + 2 * k333.toNat) (13037 + 65 * k333.toNat) [some (vR sh.1), some (vR q1), some (vI k333)] 333 [] := by
                                  intro N
                                  induction N with
                                  | zero => intro k333 ar333 ps333 h333l hk333 hX333l hs333 hN; exact absurd hN (Nat.not_lt_zero _)
                                  | succ N ih333 =>
                                    intro k333 ar333 ps333 h333l hk333 hX333l hs333 hN
                                    have hl333 := tk_len hs333 hk333.2
                                    have hb333 := hl 5 (by decide)
                                    refine z_iload_n (pc' := 334) X dX2_copy_333 rfl rfl ?_
                                    refine z_aload_n (pc' := 335) X dX2_copy_334 rfl rfl ?_
                                    refine z_get1 (pc' := 338) (kf := 16) X in_X2 rfl (by decide) q244 (Or.inl rfl) (w.at hX333l).stA rfl dX2_copy_335 rfl ?_
                                    refine z_rsize (pc' := 343) X q547 (w.at hX333l) (i := 5) (by decide) dX2_copy_338 rfl (by decide) (Nat.le_of_ble_eq_true rfl) (by omega) (by omega) ?_
                                    refine z_icmp_ge (tgt := 375) (pc' := 346) X (by first | assumption | omega) (by first | assumption | omega) dX2_copy_343 rfl (by decide) (fun c343 => ?_) (fun c343 => ?_)
                                    · refine z_aload_n (pc' := 376) X dX2_copy_375 rfl rfl ?_
                                      refine z_aret1 X (Or.inl ⟨_, rfl⟩) dX2_copy_376 (by omega) (by omega) ?_
                                      exact ⟨q1, rfl, (q1, LL2, ar333), _, rfl, hX333l, six (tk_all hs98 (by omega)) (tk_all hs145 (by omega)) (tk_all hs192 (by omega)) (tk_all hs239 (by omega)) (tk_all hs286 (by omega)) (tk_all hs333 (by omega))⟩
                                    · refine z_aload_n (pc' := 347) X dX2_copy_346 rfl rfl ?_
                                      refine z_get1 (pc' := 350) (kf := 16) X in_X2 rfl (by decide) q244 (Or.inl rfl) hX333l.stA rfl dX2_copy_347 rfl ?_
                                      refine z_aload_n (pc' := 351) X dX2_copy_350 rfl rfl ?_
                                      refine z_get1 (pc' := 354) (kf := 16) X in_X2 rfl (by decide) q244 (Or.inl rfl) (w.at hX333l).stA rfl dX2_copy_351 rfl ?_
                                      refine z_iload_n (pc' := 355) X dX2_copy_354 rfl rfl ?_
                                      obtain ⟨q14, e14, hk14⟩ := ELs.at (ps := Ls 5) (k := k333) (by first | assumption | omega)
                                      refine z_rget (pc' := 360) X q549 (w.at hX333l) (i := 5) (by decide) (j := k333) hk14 (by first | assumption | omega) dX2_copy_355 rfl (by decide) (Nat.le_of_ble_eq_true rfl) (by omega) (by omega) (by show (Ls 5).length ≤ 1000; omega) ?_
                                      refine z_castS1 (pc' := 363) X (ci := 9) q581 rfl ⟨_, ((w.at hX333l).el5 hk14)⟩ dX2_copy_360 rfl ?_
                                      refine z_radd (pc' := 368) X q299 hX333l (i := 5) (by decide) (q := q14) (e := e14) ((w.at hX333l).el5 hk14) (fun h => absurd h (by decide)) (fun h => absurd h (by decide)) (by show (ps333).length ≤ 40; omega) dX2_copy_363 rfl (by decide) (Nat.le_of_ble_eq_true rfl) (by omega) (by omega) (fun h15 ar15 hX15 hf15 => ?_)
                                      rw [lup_lup] at hX15
                                      obtain ⟨arf15, harf15⟩ : ∃ x : Nat → Option Nat, x = aup ar333 5 ar15 := ⟨_, rfl⟩
                                      have hZ15 : rX (zg C).2.2 h noF (q1, LL2, arf15) (f, rc, (lup (lup (lup (lup (lup (lup (fun _ => []) 0 ps98) 1 ps145) 2 ps192) 3 ps239) 4 ps286) 5 (ps333 ++ [(q14, e14)]))) h15 := by rw [harf15]; exact hX15
                                      refine z_pop (pc' := 369) X rfl dX2_copy_368 rfl ?_
                                      refine z_iinc (pc' := 372) X dX2_copy_369 rfl (by decide) rfl rfl ?_
                                      dsimp only [List.set]
                                      refine z_goto (tgt := 333) X dX2_copy_372 (by decide) ?_
                                      refine ZP.wk (L' := [some (vR sh.1), some (vR q1), some (vI _)]) (And.intro rfl (And.intro rfl (And.intro rfl (trivial)))) ?_
                                      exact ZP.mono (by omega) (by omega) (ih333 _ arf15 _ h15 (by omega) hZ15 (tk_step hs333 hk333.1 hk14) (by omega))
                                refine ZP.wk (L' := [some (vR sh.1), some (vR q1), some (vI _)]) (And.intro rfl (And.intro rfl (And.intro rfl (trivial)))) ?_
                                exact ZP.mono (by omega) (by omega) (loop333 _ _ ar286 _ h286l (by omega) (by have t := hX286l; rw [← lup_self (L := (lup (lup (lup (lup (lup (fun _ => []) 0 ps98) 1 ps145) 2 ps192) 3 ps239) 4 ps286)) (i := 5)] at t; exact t) rfl (Nat.lt_succ_self _))
                              · refine z_aload_n (pc' := 300) X dX2_copy_299 rfl rfl ?_
                                refine z_get1 (pc' := 303) (kf := 15) X in_X2 rfl (by decide) q242 (Or.inl rfl) hX286l.stA rfl dX2_copy_300 rfl ?_
                                refine z_aload_n (pc' := 304) X dX2_copy_303 rfl rfl ?_
                                refine z_get1 (pc' := 307) (kf := 15) X in_X2 rfl (by decide) q242 (Or.inl rfl) (w.at hX286l).stA rfl dX2_copy_304 rfl ?_
                                refine z_iload_n (pc' := 308) X dX2_copy_307 rfl rfl ?_
                                obtain ⟨q16, e16, hk16⟩ := ELs.at (ps := Ls 4) (k := k286) (by first | assumption | omega)
                                refine z_rget (pc' := 313) X q549 (w.at hX286l) (i := 4) (by decide) (j := k286) hk16 (by first | assumption | omega) dX2_copy_308 rfl (by decide) (Nat.le_of_ble_eq_true rfl) (by omega) (by omega) (by show (Ls 4).length ≤ 1000; omega) ?_
                                refine z_castS1 (pc' := 316) X (ci := 8) q568 rfl ⟨_, ((w.at hX286l).el4 hk16)⟩ dX2_copy_313 rfl ?_
                                refine z_callV1 (pc' := 319) X Y_X10_copy q673 dX2_copy_316 rfl (Nat.le_of_ble_eq_true rfl) (by omega) (by omega) rfl rfl (Nat.le_of_ble_eq_true rfl) rfl ⟨_, ((w.at hX286l).el4 hk16)⟩ (c_X10_copy _ _ _ (q16) (((zg C).2.2 (e16.2.1).toNat)) (((zg C).2.2 (3 + (e16.2.2.1).toNat))) (e16.1) (e16.2.2.2.1) (e16.2.2.2.2) ((w.at hX286l).el4 hk16)) (fun v17 h17 p17 => ?_)
                                obtain ⟨q17, ev17, n17, e17⟩ := p17
                                subst ev17
                                dsimp only [zst]
                                have g17 := (congrFun e17 q17).trans hset_s
                                have hX17 : rX (zg C).2.2 h noF (q1, LL2, ar286) (f, rc, (lup (lup (lup (lup (lup (fun _ => []) 0 ps98) 1 ps145) 2 ps192) 3 ps239) 4 (ps286))) h17 := by rw [e17]; exact hX286l.new n17
                                refine z_radd (pc' := 324) X q299 hX17 (i := 4) (by decide) (q := q17) (e := e16) g17 (fun _ => hX286l.fresh n17 (by decide)) (fun _ => Or.inr (hX286l.2.1.1 _ n17)) (by show (ps286).length ≤ 40; omega) dX2_copy_319 rfl (by decide) (Nat.le_of_ble_eq_true rfl) (by omega) (by omega) (fun h18 ar18 hX18 hf18 => ?_)
                                rw [lup_lup] at hX18
                                obtain ⟨arf18, harf18⟩ : ∃ x : Nat → Option Nat, x = aup ar286 4 ar18 := ⟨_, rfl⟩
                                have hZ18 : rX (zg C).2.2 h noF (q1, LL2, arf18) (f, rc, (lup (lup (lup (lup (lup (fun _ => []) 0 ps98) 1 ps145) 2 ps192) 3 ps239) 4 (ps286 ++ [(q17, e16)]))) h18 := by rw [harf18]; exact hX18
                                have fa19 := hX17.lsk (i := 4) (by decide) hf18 g17 (by decide)
                                refine z_pop (pc' := 325) X rfl dX2_copy_324 rfl ?_
                                refine z_iinc (pc' := 328) X dX2_copy_325 rfl (by decide) rfl rfl ?_
                                dsimp only [List.set]
                                refine z_goto (tgt := 286) X dX2_copy_328 (by decide) ?_
                                refine ZP.wk (L' := [some (vR sh.1), some (vR q1), some (vI _)]) (And.intro rfl (And.intro rfl (And.intro rfl (trivial)))) ?_
                                exact ZP.mono (by omega) (by omega) (ih286 _ arf18 _ h18 (by omega) hZ18 (tk_step hs286 hk286.1 hk16) (by omega))
                          refine ZP.wk (L' := [some (vR sh.1), some (vR q1), some (vI _)]) (And.intro rfl (And.intro rfl (And.intro rfl (trivial)))) ?_
                          exact ZP.mono (by omega) (by omega) (loop286 _ _ ar239 _ h239l (by omega) (by have t := hX239l; rw [← lup_self (L := (lup (lup (lup (lup (fun _ => []) 0 ps98) 1 ps145) 2 ps192) 3 ps239)) (i := 4)] at t; exact t) rfl (Nat.lt_succ_self _))
                        · refine z_aload_n (pc' := 253) X dX2_copy_252 rfl rfl ?_
                          refine z_get1 (pc' := 256) (kf := 14) X in_X2 rfl (by decide) q240 (Or.inl rfl) hX239l.stA rfl dX2_copy_253 rfl ?_
                          refine z_aload_n (pc' := 257) X dX2_copy_256 rfl rfl ?_
                          refine z_get1 (pc' := 260) (kf := 14) X in_X2 rfl (by decide) q240 (Or.inl rfl) (w.at hX239l).stA rfl dX2_copy_257 rfl ?_
                          refine z_iload_n (pc' := 261) X dX2_copy_260 rfl rfl ?_
                          obtain ⟨q20, e20, hk20⟩ := ELs.at (ps := Ls 3) (k := k239) (by first | assumption | omega)
                          refine z_rget (pc' := 266) X q549 (w.at hX239l) (i := 3) (by decide) (j := k239) hk20 (by first | assumption | omega) dX2_copy_261 rfl (by decide) (Nat.le_of_ble_eq_true rfl) (by omega) (by omega) (by show (Ls 3).length ≤ 1000; omega) ?_
                          refine z_castS1 (pc' := 269) X (ci := 5) q402 rfl ⟨_, ((w.at hX239l).el3 hk20)⟩ dX2_copy_266 rfl ?_
                          refine z_callV1 (pc' := 272) X Y_X6_copy q667 dX2_copy_269 rfl (Nat.le_of_ble_eq_true rfl) (by omega) (by omega) rfl rfl (Nat.le_of_ble_eq_true rfl) rfl ⟨_, ((w.at hX239l).el3 hk20)⟩ (c_X6_copy _ _ _ (q20) (((zg C).2.2 (e20.1).toNat)) (e20.2.1) (e20.2.2.1) (e20.2.2.2.1) ((w.at hX239l).el3 hk20)) (fun v21 h21 p21 => ?_)
                          obtain ⟨q21, ev21, n21, e21⟩ := p21
                          subst ev21
                          dsimp only [zst]
                          have g21 := (congrFun e21 q21).trans hset_s
                          have hX21 : rX (zg C).2.2 h noF (q1, LL2, ar239) (f, rc, (lup (lup (lup (lup (fun _ => []) 0 ps98) 1 ps145) 2 ps192) 3 (ps239))) h21 := by rw [e21]; exact hX239l.new n21
                          refine z_radd (pc' := 277) X q299 hX21 (i := 3) (by decide) (q := q21) (e := e20) g21 (fun _ => hX239l.fresh n21 (by decide)) (fun _ => Or.inr (hX239l.2.1.1 _ n21)) (by show (ps239).length ≤ 40; omega) dX2_copy_272 rfl (by decide) (Nat.le_of_ble_eq_true rfl) (by omega) (by omega) (fun h22 ar22 hX22 hf22 => ?_)
                          rw [lup_lup] at hX22
                          obtain ⟨arf22, harf22⟩ : ∃ x : Nat → Option Nat, x = aup ar239 3 ar22 := ⟨_, rfl⟩
                          have hZ22 : rX (zg C).2.2 h noF (q1, LL2, arf22) (f, rc, (lup (lup (lup (lup (fun _ => []) 0 ps98) 1 ps145) 2 ps192) 3 (ps239 ++ [(q21, e20)]))) h22 := by rw [harf22]; exact hX22
                          have fa23 := hX21.lsk (i := 3) (by decide) hf22 g21 (by decide)
                          refine z_pop (pc' := 278) X rfl dX2_copy_277 rfl ?_
                          refine z_iinc (pc' := 281) X dX2_copy_278 rfl (by decide) rfl rfl ?_
                          dsimp only [List.set]
                          refine z_goto (tgt := 239) X dX2_copy_281 (by decide) ?_
                          refine ZP.wk (L' := [some (vR sh.1), some (vR q1), some (vI _)]) (And.intro rfl (And.intro rfl (And.intro rfl (trivial)))) ?_
                          exact ZP.mono (by omega) (by omega) (ih239 _ arf22 _ h22 (by omega) hZ22 (tk_step hs239 hk239.1 hk20) (by omega))
                    refine ZP.wk (L' := [some (vR sh.1), some (vR q1), some (vI _)]) (And.intro rfl (And.intro rfl (And.intro rfl (trivial)))) ?_
                    exact ZP.mono (by omega) (by omega) (loop239 _ _ ar192 _ h192l (by omega) (by have t := hX192l; rw [← lup_self (L := (lup (lup (lup (fun _ => []) 0 ps98) 1 ps145) 2 ps192)) (i := 3)] at t; exact t) rfl (Nat.lt_succ_self _))
                  · refine z_aload_n (pc' := 206) X dX2_copy_205 rfl rfl ?_
                    refine z_get1 (pc' := 209) (kf := 13) X in_X2 rfl (by decide) q238 (Or.inl rfl) hX192l.stA rfl dX2_copy_206 rfl ?_
                    refine z_aload_n (pc' := 210) X dX2_copy_209 rfl rfl ?_
                    refine z_get1 (pc' := 213) (kf := 13) X in_X2 rfl (by decide) q238 (Or.inl rfl) (w.at hX192l).stA rfl dX2_copy_210 rfl ?_
                    refine z_iload_n (pc' := 214) X dX2_copy_213 rfl rfl ?_
                    obtain ⟨q24, e24, hk24⟩ := ELs.at (ps := Ls 2) (k := k192) (by first | assumption | omega)
                    refine z_rget (pc' := 219) X q549 (w.at hX192l) (i := 2) (by decide) (j := k192) hk24 (by first | assumption | omega) dX2_copy_214 rfl (by decide) (Nat.le_of_ble_eq_true rfl) (by omega) (by omega) (by show (Ls 2).length ≤ 1000; omega) ?_
                    refine z_castS1 (pc' := 222) X (ci := 4) q380 rfl ⟨_, ((w.at hX192l).el2 hk24)⟩ dX2_copy_219 rfl ?_
                    refine z_callV1 (pc' := 225) X Y_X5_copy q661 dX2_copy_222 rfl (Nat.le_of_ble_eq_true rfl) (by omega) (by omega) rfl rfl (Nat.le_of_ble_eq_true rfl) rfl ⟨_, ((w.at hX192l).el2 hk24)⟩ (c_X5_copy _ _ _ (q24) (e24.1) (e24.2.1) (e24.2.2.1) ((w.at hX192l).el2 hk24)) (fun v25 h25 p25 => ?_)
                    obtain ⟨q25, ev25, n25, e25⟩ := p25
                    subst ev25
                    dsimp only [zst]
                    have g25 := (congrFun e25 q25).trans hset_s
                    have hX25 : rX (zg C).2.2 h noF (q1, LL2, ar192) (f, rc, (lup (lup (lup (fun _ => []) 0 ps98) 1 ps145) 2 (ps192))) h25 := by rw [e25]; exact hX192l.new n25
                    refine z_radd (pc' := 230) X q299 hX25 (i := 2) (by decide) (q := q25) (e := e24) g25 (fun _ => hX192l.fresh n25 (by decide)) (fun _ => Or.inr (hX192l.2.1.1 _ n25)) (by show (ps192).length ≤ 40; omega) dX2_copy_225 rfl (by decide) (Nat.le_of_ble_eq_true rfl) (by omega) (by omega) (fun h26 ar26 hX26 hf26 => ?_)
                    rw [lup_lup] at hX26
                    obtain ⟨arf26, harf26⟩ : ∃ x : Nat → Option Nat, x = aup ar192 2 ar26 := ⟨_, rfl⟩
                    have hZ26 : rX (zg C).2.2 h noF (q1, LL2, arf26) (f, rc, (lup (lup (lup (fun _ => []) 0 ps98) 1 ps145) 2 (ps192 ++ [(q25, e24)]))) h26 := by rw [harf26]; exact hX26
                    have fa27 := hX25.lsk (i := 2) (by decide) hf26 g25 (by decide)
                    refine z_pop (pc' := 231) X rfl dX2_copy_230 rfl ?_
                    refine z_iinc (pc' := 234) X dX2_copy_231 rfl (by decide) rfl rfl ?_
                    dsimp only [List.set]
                    refine z_goto (tgt := 192) X dX2_copy_234 (by decide) ?_
                    refine ZP.wk (L' := [some (vR sh.1), some (vR q1), some (vI _)]) (And.intro rfl (And.intro rfl (And.intro rfl (trivial)))) ?_
                    exact ZP.mono (by omega) (by omega) (ih192 _ arf26 _ h26 (by omega) hZ26 (tk_step hs192 hk192.1 hk24) (by omega))
              refine ZP.wk (L' := [some (vR sh.1), some (vR q1), some (vI _)]) (And.intro rfl (And.intro rfl (And.intro rfl (trivial)))) ?_
              exact ZP.mono (by omega) (by omega) (loop192 _ _ ar145 _ h145l (by omega) (by have t := hX145l; rw [← lup_self (L := (lup (lup (fun _ => []) 0 ps98) 1 ps145)) (i := 2)] at t; exact t) rfl (Nat.lt_succ_self _))
            · refine z_aload_n (pc' := 159) X dX2_copy_158 rfl rfl ?_
              refine z_get1 (pc' := 162) (kf := 12) X in_X2 rfl (by decide) q236 (Or.inl rfl) hX145l.stA rfl dX2_copy_159 rfl ?_
              refine z_aload_n (pc' := 163) X dX2_copy_162 rfl rfl ?_
              refine z_get1 (pc' := 166) (kf := 12) X in_X2 rfl (by decide) q236 (Or.inl rfl) (w.at hX145l).stA rfl dX2_copy_163 rfl ?_
              refine z_iload_n (pc' := 167) X dX2_copy_166 rfl rfl ?_
              obtain ⟨q28, e28, hk28⟩ := ELs.at (ps := Ls 1) (k := k145) (by first | assumption | omega)
              refine z_rget (pc' := 172) X q549 (w.at hX145l) (i := 1) (by decide) (j := k145) hk28 (by first | assumption | omega) dX2_copy_167 rfl (by decide) (Nat.le_of_ble_eq_true rfl) (by omega) (by omega) (by show (Ls 1).length ≤ 1000; omega) ?_
              refine z_castS1 (pc' := 175) X (ci := 7) q567 rfl ⟨_, ((w.at hX145l).el1 hk28)⟩ dX2_copy_172 rfl ?_
              refine z_callV1 (pc' := 178) X Y_X9_copy q625 dX2_copy_175 rfl (Nat.le_of_ble_eq_true rfl) (by omega) (by omega) rfl rfl (Nat.le_of_ble_eq_true rfl) rfl ⟨_, ((w.at hX145l).el1 hk28)⟩ (c_X9_copy _ _ _ (q28) (e28.1) (e28.2.1) (e28.2.2.1) (e28.2.2.2.1) (e28.2.2.2.2) (hm _ (List.mem_of_getElem? hk28)) ((w.at hX145l).el1 hk28)) (fun v29 h29 p29 => ?_)
              obtain ⟨q29, ev29, n29, e29⟩ := p29
              subst ev29
              dsimp only [zst]
              have g29 := (congrFun e29 q29).trans hset_s
              have hX29 : rX (zg C).2.2 h noF (q1, LL2, ar145) (f, rc, (lup (lup (fun _ => []) 0 ps98) 1 (ps145))) h29 := by rw [e29]; exact hX145l.new n29
              refine z_radd (pc' := 183) X q299 hX29 (i := 1) (by decide) (q := q29) (e := e28) g29 (fun _ => hX145l.fresh n29 (by decide)) (fun _ => Or.inr (hX145l.2.1.1 _ n29)) (by show (ps145).length ≤ 40; omega) dX2_copy_178 rfl (by decide) (Nat.le_of_ble_eq_true rfl) (by omega) (by omega) (fun h30 ar30 hX30 hf30 => ?_)
              rw [lup_lup] at hX30
              obtain ⟨arf30, harf30⟩ : ∃ x : Nat → Option Nat, x = aup ar145 1 ar30 := ⟨_, rfl⟩
              have hZ30 : rX (zg C).2.2 h noF (q1, LL2, arf30) (f, rc, (lup (lup (fun _ => []) 0 ps98) 1 (ps145 ++ [(q29, e28)]))) h30 := by rw [harf30]; exact hX30
              have fa31 := hX29.lsk (i := 1) (by decide) hf30 g29 (by decide)
              refine z_pop (pc' := 184) X rfl dX2_copy_183 rfl ?_
              refine z_iinc (pc' := 187) X dX2_copy_184 rfl (by decide) rfl rfl ?_
              dsimp only [List.set]
              refine z_goto (tgt := 145) X dX2_copy_187 (by decide) ?_
              refine ZP.wk (L' := [some (vR sh.1), some (vR q1), some (vI _)]) (And.intro rfl (And.intro rfl (And.intro rfl (trivial)))) ?_
              exact ZP.mono (by omega) (by omega) (ih145 _ arf30 _ h30 (by omega) hZ30 (tk_step hs145 hk145.1 hk28) (by omega))
        refine ZP.wk (L' := [some (vR sh.1), some (vR q1), some (vI _)]) (And.intro rfl (And.intro rfl (And.intro rfl (trivial)))) ?_
        exact ZP.mono (by omega) (by omega) (loop145 _ _ ar98 _ h98l (by omega) (by have t := hX98l; rw [← lup_self (L := (lup (fun _ => []) 0 ps98)) (i := 1)] at t; exact t) rfl (Nat.lt_succ_self _))
      · refine z_aload_n (pc' := 112) X dX2_copy_111 rfl rfl ?_
        refine z_get1 (pc' := 115) (kf := 11) X in_X2 rfl (by decide) q234 (Or.inl rfl) hX98l.stA rfl dX2_copy_112 rfl ?_
        refine z_aload_n (pc' := 116) X dX2_copy_115 rfl rfl ?_
        refine z_get1 (pc' := 119) (kf := 11) X in_X2 rfl (by decide) q234 (Or.inl rfl) (w.at hX98l).stA rfl dX2_copy_116 rfl ?_
        refine z_iload_n (pc' := 120) X dX2_copy_119 rfl rfl ?_
        obtain ⟨q32, e32, hk32⟩ := ELs.at (ps := Ls 0) (k := k98) (by first | assumption | omega)
        refine z_rget (pc' := 125) X q549 (w.at hX98l) (i := 0) (by decide) (j := k98) hk32 (by first | assumption | omega) dX2_copy_120 rfl (by decide) (Nat.le_of_ble_eq_true rfl) (by omega) (by omega) (by show (Ls 0).length ≤ 1000; omega) ?_
        refine z_castS1 (pc' := 128) X (ci := 3) q281 rfl ⟨_, ((w.at hX98l).el0 hk32)⟩ dX2_copy_125 rfl ?_
        refine z_callV1 (pc' := 131) X Y_X4_copy q619 dX2_copy_128 rfl (Nat.le_of_ble_eq_true rfl) (by omega) (by omega) rfl rfl (Nat.le_of_ble_eq_true rfl) rfl ⟨_, ((w.at hX98l).el0 hk32)⟩ (c_X4_copy _ _ _ (q32) (e32.1) (e32.2.1) ((w.at hX98l).el0 hk32)) (fun v33 h33 p33 => ?_)
        obtain ⟨q33, ev33, n33, e33⟩ := p33
        subst ev33
        dsimp only [zst]
        have g33 := (congrFun e33 q33).trans hset_s
        have hX33 : rX (zg C).2.2 h noF (q1, LL2, ar98) (f, rc, (lup (fun _ => []) 0 (ps98))) h33 := by rw [e33]; exact hX98l.new n33
        refine z_radd (pc' := 136) X q299 hX33 (i := 0) (by decide) (q := q33) (e := e32) g33 (fun _ => hX98l.fresh n33 (by decide)) (fun _ => Or.inr (hX98l.2.1.1 _ n33)) (by show (ps98).length ≤ 40; omega) dX2_copy_131 rfl (by decide) (Nat.le_of_ble_eq_true rfl) (by omega) (by omega) (fun h34 ar34 hX34 hf34 => ?_)
        rw [lup_lup] at hX34
        obtain ⟨arf34, harf34⟩ : ∃ x : Nat → Option Nat, x = aup ar98 0 ar34 := ⟨_, rfl⟩
        have hZ34 : rX (zg C).2.2 h noF (q1, LL2, arf34) (f, rc, (lup (fun _ => []) 0 (ps98 ++ [(q33, e32)]))) h34 := by rw [harf34]; exact hX34
        have fa35 := hX33.lsk (i := 0) (by decide) hf34 g33 (by decide)
        refine z_pop (pc' := 137) X rfl dX2_copy_136 rfl ?_
        refine z_iinc (pc' := 140) X dX2_copy_137 rfl (by decide) rfl rfl ?_
        dsimp only [List.set]
        refine z_goto (tgt := 98) X dX2_copy_140 (by decide) ?_
        refine ZP.wk (L' := [some (vR sh.1), some (vR q1), some (vI _)]) (And.intro rfl (And.intro rfl (And.intro rfl (trivial)))) ?_
        exact ZP.mono (by omega) (by omega) (ih98 _ arf34 _ h34 (by omega) hZ34 (tk_step hs98 hk98.1 hk32) (by omega))
  have hXf : rX (zg C).2.2 h noF (q1, LL2, AR2) (f, rc, (fun _ => [])) h13 := hX13.congrF (f := f) (fun j hj => by
    have hj2 : j = 0 ∨ j = 1 ∨ j = 2 ∨ j = 3 ∨ j = 7 ∨ j = 8 ∨ j = 9 ∨ j = 10 ∨ j = 11 ∨ j = 12 ∨ j = 201 ∨ j = 202 ∨ j = 203 ∨ j = 204 ∨ j = 205 := by omega
    rcases hj2 with rfl | rfl | rfl | rfl | rfl | rfl | rfl | rfl | rfl | rfl | rfl | rfl | rfl | rfl | rfl <;> rfl)
  refine ZP.wk (L' := [some (vR sh.1), some (vR q1), some (vI _)]) (And.intro rfl (And.intro rfl (And.intro rfl (trivial)))) ?_
  exact ZP.mono (by omega) (by omega) (loop98 _ _ AR2 _ h13 (by omega) (by have t := hXf; rw [← lup_self (L := (fun _ => [])) (i := 0)] at t; exact t) rfl (Nat.lt_succ_self _))
end ZSTATE3
