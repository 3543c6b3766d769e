/-! THE STATICS of PaperMill: strength, parts, depth, shares -/
section ZS9
section
variable {C : ZC} {cc : ByteArray} {own : String} {nL : Nat} {ret : Option FieldType} {d mc ms : Nat} {post : Option Value → GH → Prop} {Φ : GH → Prop} {k n : Nat} {L : List (Option Value)} {pc pc' : Nat} {st : List Value}
theorem z_tabI (X : zX C cc own nL ret d mc ms post) {z : Int} (ha : rng z) {dflt lo hi off : Int} {offs : Array Int} {len tgt : Nat} (hd : decode cc pc = .ok (.tableswitch dflt lo hi offs, len)) (h1 : lo ≤ z) (h2 : z ≤ hi) (ho : offs[(z - lo).toNat]? = some off) (ht : (pc : Int) + off = (tgt : Int)) (kk : ZP C nL Φ k n L tgt st) : ZP C nL Φ k n L pc (vI z :: st) := by
  obtain ⟨p, l, e, R, s, m, args, below, meth, c, g, Q⟩ := C
  obtain ⟨hx, hb, hml, hown, hts, hret, hlk, hK, hR, hQ⟩ := X
  intro h H locs cells slots ls h1' h2' h3 h4 h5 h6
  exact lv_tableIn hx hb hd (by rw [jI_int ha]; omega) (by rw [jI_int ha]; omega) (by rw [jI_int ha]; exact ho) ht (kk h H locs cells slots ls h1' h2' h3 h4 h5 h6)
theorem z_tabO (X : zX C cc own nL ret d mc ms post) {z : Int} (ha : rng z) {dflt lo hi : Int} {offs : Array Int} {len tgt : Nat} (hd : decode cc pc = .ok (.tableswitch dflt lo hi offs, len)) (h1 : z < lo ∨ hi < z) (ht : (pc : Int) + dflt = (tgt : Int)) (kk : ZP C nL Φ k n L tgt st) : ZP C nL Φ k n L pc (vI z :: st) := by
  obtain ⟨p, l, e, R, s, m, args, below, meth, c, g, Q⟩ := C
  obtain ⟨hx, hb, hml, hown, hts, hret, hlk, hK, hR, hQ⟩ := X
  intro h H locs cells slots ls h1' h2' h3 h4 h5 h6
  exact lv_tableOut hx hb hd (by rw [jI_int ha]; exact h1) ht (kk h H locs cells slots ls h1' h2' h3 h4 h5 h6)
end
theorem Y_X1_strength : zYS yX1_strength cX1_strength 1 (some .int) 1 := ⟨⟨q1298, q112, q1299⟩, by decide +kernel, by decide⟩
set_option maxRecDepth 100000 in
theorem c_X1_strength (l : Launch) (g : zG) (h : GH) (s : Int) (hs : 0 ≤ s ∧ s ≤ 3) : zPur l yX1_strength cX1_strength 1 (some .int) 1 [vI s] g h (some (vI (strn s))) := by
  refine zMet.mk (L0 := [some (vI s)]) (by decide) rfl (Nat.le_of_ble_eq_true rfl) rfl (fun C hg hl hnm X => ?_)
  subst hg hl
  refine z_iload_n (pc' := 1) X dX1_strength_0 rfl rfl ?_
  obtain rfl | rfl | rfl | rfl : s = 0 ∨ s = 1 ∨ s = 2 ∨ s = 3 := by omega
  · refine z_tabI (off := 27) (tgt := 28) X (by decide) dX1_strength_1 (by decide) (by decide) rfl (by decide) ?_
    refine z_bipush (pc' := 30) X dX1_strength_28 rfl (by decide) ?_
    refine z_iret1 X dX1_strength_30 (Nat.le_of_ble_eq_true rfl) (Nat.le_of_ble_eq_true rfl) ?_
    exact ⟨rfl, rfl⟩
  · refine z_tabI (off := 30) (tgt := 31) X (by decide) dX1_strength_1 (by decide) (by decide) rfl (by decide) ?_
    refine z_bipush (pc' := 33) X dX1_strength_31 rfl (by decide) ?_
    refine z_iret1 X dX1_strength_33 (Nat.le_of_ble_eq_true rfl) (Nat.le_of_ble_eq_true rfl) ?_
    exact ⟨rfl, rfl⟩
  · refine z_tabI (off := 33) (tgt := 34) X (by decide) dX1_strength_1 (by decide) (by decide) rfl (by decide) ?_
    refine z_bipush (pc' := 36) X dX1_strength_34 rfl (by decide) ?_
    refine z_iret1 X dX1_strength_36 (Nat.le_of_ble_eq_true rfl) (Nat.le_of_ble_eq_true rfl) ?_
    exact ⟨rfl, rfl⟩
  · refine z_tabO (tgt := 37) X (by decide) dX1_strength_1 (by decide) (by decide) ?_
    refine z_bipush (pc' := 39) X dX1_strength_37 rfl (by decide) ?_
    refine z_iret1 X dX1_strength_39 (Nat.le_of_ble_eq_true rfl) (Nat.le_of_ble_eq_true rfl) ?_
    exact ⟨rfl, rfl⟩
theorem Y_X1_parts : zYS yX1_parts cX1_parts 3 (some .int) 2 := ⟨⟨q1287, q112, q1288⟩, by decide +kernel, by decide⟩
set_option maxRecDepth 100000 in
theorem c_X1_parts (l : Launch) (g : zG) (h : GH) : ∀ (n q : Nat) (p : Int → Int) (dd : Int), mxA h n q p dd → ∀ s : Int, 0 ≤ s ∧ s < 4 → zPur l yX1_parts cX1_parts 3 (some .int) n [vR q, vI s] g h (some (vI (p s)))
  | 0, _, _, _, hm, s, hs => hm.elim
  | n + 1, q, p, dd, hm, s, hs => by
    have ih := c_X1_parts l g h n
    rcases hm with ⟨xs, xk, xe, xr, xp, xd⟩ | ⟨xa, xb, p1, p2, d1, d2, xe, xm1, xm2, xp, xd⟩ | ⟨xa, xt, p1, d1, xe, xm1, xp, xd⟩
    · refine zMet.mk (L0 := [some (vR q), some (vI s), none]) (by decide) rfl (Nat.le_of_ble_eq_true rfl) rfl (fun C hg hl hnm X => ?_)
      subst hg hl
      refine z_aload_n (pc' := 1) X dX1_parts_0 rfl rfl ?_
      refine z_instS1 (pc' := 4) X (ci := 2) q519 rfl ⟨_, xe⟩ dX1_parts_1 rfl ?_
      refine z_if_eq (tgt := 29) (pc' := 7) X (by first | assumption | omega) dX1_parts_4 rfl (by decide) (fun c4 => ?_) (fun c4 => ?_)
      · exact absurd c4 (by decide)
      · refine z_aload_n (pc' := 8) X dX1_parts_7 rfl rfl ?_
        refine z_castS1 (pc' := 11) X (ci := 2) q519 rfl ⟨_, xe⟩ dX1_parts_8 rfl ?_
        refine z_astore_n (pc' := 12) X dX1_parts_11 rfl (by decide) rfl ?_
        dsimp only [List.set]
        refine z_aload_n (pc' := 13) X dX1_parts_12 rfl rfl ?_
        refine z_get1 (pc' := 16) (kf := 0) X in_X3 rfl (by decide) q178 (Or.inl rfl) xe rfl dX1_parts_13 rfl ?_
        refine z_iload_n (pc' := 17) X dX1_parts_16 rfl rfl ?_
        refine z_icmp_ne (tgt := 27) (pc' := 20) X (by first | assumption | omega) (by first | assumption | omega) dX1_parts_17 rfl (by decide) (fun c17 => ?_) (fun c17 => ?_)
        · refine z_iconst (pc' := 28) X dX1_parts_27 rfl ?_
          refine z_iret1 X dX1_parts_28 (Nat.le_of_ble_eq_true rfl) (Nat.le_of_ble_eq_true rfl) ?_
          exact ⟨by rw [xp s hs.1 hs.2, if_neg c17], rfl⟩
        · refine z_aload_n (pc' := 21) X dX1_parts_20 rfl rfl ?_
          refine z_get1 (pc' := 24) (kf := 1) X in_X3 rfl (by decide) q180 (Or.inl rfl) xe rfl dX1_parts_21 rfl ?_
          refine z_goto (tgt := 28) X dX1_parts_24 (by decide) ?_
          refine z_iret1 X dX1_parts_28 (Nat.le_of_ble_eq_true rfl) (Nat.le_of_ble_eq_true rfl) ?_
          exact ⟨by rw [xp s hs.1 hs.2, if_pos c17], rfl⟩
    · refine zMet.mk (L0 := [some (vR q), some (vI s), none]) (by decide) rfl (Nat.le_of_ble_eq_true rfl) rfl (fun C hg hl hnm X => ?_)
      subst hg hl
      refine z_aload_n (pc' := 1) X dX1_parts_0 rfl rfl ?_
      refine z_instN1 (pc' := 4) X (ci := 12) q519 rfl (fun U hU => hU.2.2.2.2.2.2.2.2.2.2.1) ⟨_, xe⟩ dX1_parts_1 rfl ?_
      refine z_if_eq (tgt := 29) (pc' := 7) X (by first | assumption | omega) dX1_parts_4 rfl (by decide) (fun c4 => ?_) (fun c4 => ?_)
      · refine z_aload_n (pc' := 30) X dX1_parts_29 rfl rfl ?_
        refine z_instS1 (pc' := 33) X (ci := 12) q520 rfl ⟨_, xe⟩ dX1_parts_30 rfl ?_
        refine z_if_eq (tgt := 59) (pc' := 36) X (by first | assumption | omega) dX1_parts_33 rfl (by decide) (fun c33 => ?_) (fun c33 => ?_)
        · exact absurd c33 (by decide)
        · refine z_aload_n (pc' := 37) X dX1_parts_36 rfl rfl ?_
          refine z_castS1 (pc' := 40) X (ci := 12) q520 rfl ⟨_, xe⟩ dX1_parts_37 rfl ?_
          refine z_astore_n (pc' := 41) X dX1_parts_40 rfl (by decide) rfl ?_
          dsimp only [List.set]
          refine z_aload_n (pc' := 42) X dX1_parts_41 rfl rfl ?_
          refine z_get1 (pc' := 45) (kf := 0) X in_X16 rfl (by decide) q1198 (Or.inl rfl) xe rfl dX1_parts_42 rfl ?_
          refine z_iload_n (pc' := 46) X dX1_parts_45 rfl rfl ?_
          refine z_callS0 (pc' := 49) X Y_X1_parts q1286 dX1_parts_46 rfl (Nat.le_refl _) (Nat.le_of_ble_eq_true rfl) (Nat.le_of_ble_eq_true rfl) rfl rfl (Nat.le_of_ble_eq_true rfl) (ih xa p1 _ xm1 s hs) ?_
          dsimp only [zst]
          refine z_aload_n (pc' := 50) X dX1_parts_49 rfl rfl ?_
          refine z_get1 (pc' := 53) (kf := 1) X in_X16 rfl (by decide) q1200 (Or.inl rfl) xe rfl dX1_parts_50 rfl ?_
          refine z_iload_n (pc' := 54) X dX1_parts_53 rfl rfl ?_
          refine z_callS0 (pc' := 57) X Y_X1_parts q1286 dX1_parts_54 rfl (Nat.le_refl _) (Nat.le_of_ble_eq_true rfl) (Nat.le_of_ble_eq_true rfl) rfl rfl (Nat.le_of_ble_eq_true rfl) (ih xb p2 _ xm2 s hs) ?_
          dsimp only [zst]
          refine z_iadd (pc' := 58) X dX1_parts_57 rfl ?_
          refine z_iret1 X dX1_parts_58 (Nat.le_of_ble_eq_true rfl) (Nat.le_of_ble_eq_true rfl) ?_
          exact ⟨by rw [xp s hs.1 hs.2], rfl⟩
      · exact absurd rfl c4
    · refine zMet.mk (L0 := [some (vR q), some (vI s), none]) (by decide) rfl (Nat.le_of_ble_eq_true rfl) rfl (fun C hg hl hnm X => ?_)
      subst hg hl
      refine z_aload_n (pc' := 1) X dX1_parts_0 rfl rfl ?_
      refine z_instN1 (pc' := 4) X (ci := 11) q519 rfl (fun U hU => hU.2.2.2.2.2.2.2.2.2.2.2.1) ⟨_, xe⟩ dX1_parts_1 rfl ?_
      refine z_if_eq (tgt := 29) (pc' := 7) X (by first | assumption | omega) dX1_parts_4 rfl (by decide) (fun c4 => ?_) (fun c4 => ?_)
      · refine z_aload_n (pc' := 30) X dX1_parts_29 rfl rfl ?_
        refine z_instN1 (pc' := 33) X (ci := 11) q520 rfl (fun U hU => hU.2.2.2.2.2.2.2.2.2.2.2.2) ⟨_, xe⟩ dX1_parts_30 rfl ?_
        refine z_if_eq (tgt := 59) (pc' := 36) X (by first | assumption | omega) dX1_parts_33 rfl (by decide) (fun c33 => ?_) (fun c33 => ?_)
        · refine z_aload_n (pc' := 60) X dX1_parts_59 rfl rfl ?_
          refine z_castS1 (pc' := 63) X (ci := 11) q521 rfl ⟨_, xe⟩ dX1_parts_60 rfl ?_
          refine z_astore_n (pc' := 64) X dX1_parts_63 rfl (by decide) rfl ?_
          dsimp only [List.set]
          refine z_aload_n (pc' := 65) X dX1_parts_64 rfl rfl ?_
          refine z_get1 (pc' := 68) (kf := 1) X in_X15 rfl (by decide) q1179 (Or.inl rfl) xe rfl dX1_parts_65 rfl ?_
          refine z_aload_n (pc' := 69) X dX1_parts_68 rfl rfl ?_
          refine z_get1 (pc' := 72) (kf := 0) X in_X15 rfl (by decide) q1177 (Or.inl rfl) xe rfl dX1_parts_69 rfl ?_
          refine z_iload_n (pc' := 73) X dX1_parts_72 rfl rfl ?_
          refine z_callS0 (pc' := 76) X Y_X1_parts q1286 dX1_parts_73 rfl (Nat.le_refl _) (Nat.le_of_ble_eq_true rfl) (Nat.le_of_ble_eq_true rfl) rfl rfl (Nat.le_of_ble_eq_true rfl) (ih xa p1 _ xm1 s hs) ?_
          dsimp only [zst]
          refine z_imul (pc' := 77) X dX1_parts_76 rfl ?_
          refine z_iret1 X dX1_parts_77 (Nat.le_of_ble_eq_true rfl) (Nat.le_of_ble_eq_true rfl) ?_
          exact ⟨by rw [xp s hs.1 hs.2], rfl⟩
        · exact absurd rfl c33
      · exact absurd rfl c4
theorem mxA.d0 {h : GH} : ∀ {n q : Nat} {p : Int → Int} {d : Int}, mxA h n q p d → 0 ≤ d
  | 0, _, _, _, a => a.elim
  | n + 1, q, p, d, a => by
    rcases a with ⟨s, k, -, -, -, e⟩ | ⟨x, y, p1, p2, d1, d2, -, a1, a2, -, e⟩ | ⟨x, t, p1, d1, -, a1, -, e⟩
    · omega
    · have := a1.d0
      have := a2.d0
      split at e <;> omega
    · have := a1.d0
      omega
theorem Y_X1_depth : zYS yX1_depth cX1_depth 4 (some .int) 1 := ⟨⟨q517, q112, q518⟩, by decide +kernel, by decide⟩
set_option maxRecDepth 100000 in
theorem c_X1_depth (l : Launch) (g : zG) (h : GH) : ∀ (n q : Nat) (p : Int → Int) (dd : Int), mxA h n q p dd → dd ≤ 1000 → zPur l yX1_depth cX1_depth 4 (some .int) n [vR q] g h (some (vI dd))
  | 0, _, _, _, hm, hb => hm.elim
  | n + 1, q, p, dd, hm, hb => by
    have ih := c_X1_depth l g h n
    rcases hm with ⟨xs, xk, xe, xr, xp, xd⟩ | ⟨xa, xb, p1, p2, d1, d2, xe, xm1, xm2, xp, xd⟩ | ⟨xa, xt, p1, d1, xe, xm1, xp, xd⟩
    · refine zMet.mk (L0 := [some (vR q), none, none, none]) (by decide) rfl (Nat.le_of_ble_eq_true rfl) rfl (fun C hg hl hnm X => ?_)
      subst hg hl
      refine z_aload_n (pc' := 1) X dX1_depth_0 rfl rfl ?_
      refine z_instS1 (pc' := 4) X (ci := 2) q519 rfl ⟨_, xe⟩ dX1_depth_1 rfl ?_
      refine z_if_eq (tgt := 9) (pc' := 7) X (by first | assumption | omega) dX1_depth_4 rfl (by decide) (fun c4 => ?_) (fun c4 => ?_)
      · exact absurd c4 (by decide)
      · refine z_iconst (pc' := 8) X dX1_depth_7 rfl ?_
        refine z_iret1 X dX1_depth_8 (Nat.le_of_ble_eq_true rfl) (Nat.le_of_ble_eq_true rfl) ?_
        exact ⟨by rw [xd], rfl⟩
    · refine zMet.mk (L0 := [some (vR q), none, none, none]) (by decide) rfl (Nat.le_of_ble_eq_true rfl) rfl (fun C hg hl hnm X => ?_)
      subst hg hl
      have hd1 := mxA.d0 xm1
      have hd2 := mxA.d0 xm2
      have hdx : d1 ≤ 1000 ∧ d2 ≤ 1000 := by split at xd <;> omega
      refine z_aload_n (pc' := 1) X dX1_depth_0 rfl rfl ?_
      refine z_instN1 (pc' := 4) X (ci := 12) q519 rfl (fun U hU => hU.2.2.2.2.2.2.2.2.2.2.1) ⟨_, xe⟩ dX1_depth_1 rfl ?_
      refine z_if_eq (tgt := 9) (pc' := 7) X (by first | assumption | omega) dX1_depth_4 rfl (by decide) (fun c4 => ?_) (fun c4 => ?_)
      · refine z_aload_n (pc' := 10) X dX1_depth_9 rfl rfl ?_
        refine z_instS1 (pc' := 13) X (ci := 12) q520 rfl ⟨_, xe⟩ dX1_depth_10 rfl ?_
        refine z_if_eq (tgt := 48) (pc' := 16) X (by first | assumption | omega) dX1_depth_13 rfl (by decide) (fun c13 => ?_) (fun c13 => ?_)
        · exact absurd c13 (by decide)
        · refine z_aload_n (pc' := 17) X dX1_depth_16 rfl rfl ?_
          refine z_castS1 (pc' := 20) X (ci := 12) q520 rfl ⟨_, xe⟩ dX1_depth_17 rfl ?_
          refine z_astore_n (pc' := 21) X dX1_depth_20 rfl (by decide) rfl ?_
          dsimp only [List.set]
          refine z_aload_n (pc' := 22) X dX1_depth_21 rfl rfl ?_
          refine z_get1 (pc' := 25) (kf := 0) X in_X16 rfl (by decide) q1198 (Or.inl rfl) xe rfl dX1_depth_22 rfl ?_
          refine z_callS0 (pc' := 28) X Y_X1_depth q516 dX1_depth_25 rfl (Nat.le_refl _) (Nat.le_of_ble_eq_true rfl) (Nat.le_of_ble_eq_true rfl) rfl rfl (Nat.le_of_ble_eq_true rfl) (ih xa _ d1 xm1 (by omega)) ?_
          dsimp only [zst]
          refine z_istore_n (pc' := 29) X dX1_depth_28 rfl (by decide) rfl ?_
          dsimp only [List.set]
          refine z_aload_n (pc' := 30) X dX1_depth_29 rfl rfl ?_
          refine z_get1 (pc' := 33) (kf := 1) X in_X16 rfl (by decide) q1200 (Or.inl rfl) xe rfl dX1_depth_30 rfl ?_
          refine z_callS0 (pc' := 36) X Y_X1_depth q516 dX1_depth_33 rfl (Nat.le_refl _) (Nat.le_of_ble_eq_true rfl) (Nat.le_of_ble_eq_true rfl) rfl rfl (Nat.le_of_ble_eq_true rfl) (ih xb _ d2 xm2 (by omega)) ?_
          dsimp only [zst]
          refine z_istore_n (pc' := 37) X dX1_depth_36 rfl (by decide) rfl ?_
          dsimp only [List.set]
          refine z_iload_n (pc' := 38) X dX1_depth_37 rfl rfl ?_
          refine z_iload_n (pc' := 39) X dX1_depth_38 rfl rfl ?_
          refine z_icmp_le (tgt := 46) (pc' := 42) X (by first | assumption | omega) (by first | assumption | omega) dX1_depth_39 rfl (by decide) (fun c39 => ?_) (fun c39 => ?_)
          · refine z_iload_n (pc' := 47) X dX1_depth_46 rfl rfl ?_
            refine z_iret1 X dX1_depth_47 (Nat.le_of_ble_eq_true rfl) (Nat.le_of_ble_eq_true rfl) ?_
            exact ⟨by rw [xd, if_neg (Int.not_lt.mpr c39)], rfl⟩
          · refine z_iload_n (pc' := 43) X dX1_depth_42 rfl rfl ?_
            refine z_goto (tgt := 47) X dX1_depth_43 (by decide) ?_
            refine z_iret1 X dX1_depth_47 (Nat.le_of_ble_eq_true rfl) (Nat.le_of_ble_eq_true rfl) ?_
            exact ⟨by rw [xd, if_pos (by omega)], rfl⟩
      · exact absurd rfl c4
    · refine zMet.mk (L0 := [some (vR q), none, none, none]) (by decide) rfl (Nat.le_of_ble_eq_true rfl) rfl (fun C hg hl hnm X => ?_)
      subst hg hl
      refine z_aload_n (pc' := 1) X dX1_depth_0 rfl rfl ?_
      refine z_instN1 (pc' := 4) X (ci := 11) q519 rfl (fun U hU => hU.2.2.2.2.2.2.2.2.2.2.2.1) ⟨_, xe⟩ dX1_depth_1 rfl ?_
      refine z_if_eq (tgt := 9) (pc' := 7) X (by first | assumption | omega) dX1_depth_4 rfl (by decide) (fun c4 => ?_) (fun c4 => ?_)
      · refine z_aload_n (pc' := 10) X dX1_depth_9 rfl rfl ?_
        refine z_instN1 (pc' := 13) X (ci := 11) q520 rfl (fun U hU => hU.2.2.2.2.2.2.2.2.2.2.2.2) ⟨_, xe⟩ dX1_depth_10 rfl ?_
        refine z_if_eq (tgt := 48) (pc' := 16) X (by first | assumption | omega) dX1_depth_13 rfl (by decide) (fun c13 => ?_) (fun c13 => ?_)
        · refine z_iconst (pc' := 49) X dX1_depth_48 rfl ?_
          refine z_aload_n (pc' := 50) X dX1_depth_49 rfl rfl ?_
          refine z_castS1 (pc' := 53) X (ci := 11) q521 rfl ⟨_, xe⟩ dX1_depth_50 rfl ?_
          refine z_get1 (pc' := 56) (kf := 0) X in_X15 rfl (by decide) q1177 (Or.inl rfl) xe rfl dX1_depth_53 rfl ?_
          refine z_callS0 (pc' := 59) X Y_X1_depth q516 dX1_depth_56 rfl (Nat.le_refl _) (Nat.le_of_ble_eq_true rfl) (Nat.le_of_ble_eq_true rfl) rfl rfl (Nat.le_of_ble_eq_true rfl) (ih xa _ d1 xm1 (by omega)) ?_
          dsimp only [zst]
          refine z_iadd (pc' := 60) X dX1_depth_59 rfl ?_
          refine z_iret1 X dX1_depth_60 (Nat.le_of_ble_eq_true rfl) (Nat.le_of_ble_eq_true rfl) ?_
          exact ⟨by rw [xd], rfl⟩
        · exact absurd rfl c13
      · exact absurd rfl c4
theorem ahd_lt {r : Int → Int} {i j : Int} (hi : 0 ≤ i ∧ i < 4) (h : r j < r i ∨ (r i = r j ∧ i < j)) : ahd r i < ahd r j := by
  have z4 : ∀ f : Int → Int, zsum f 4 = 0 + f 0 + f 1 + f 2 + f 3 := fun f => rfl
  have a : ∀ o : Int, (if r i < r o ∨ (r o = r i ∧ o < i) then (1 : Int) else 0) ≤ (if r j < r o ∨ (r o = r j ∧ o < j) then (1 : Int) else 0) := fun o => by
    by_cases c : r i < r o ∨ (r o = r i ∧ o < i)
    · rw [if_pos c, if_pos (by omega)]
      exact Int.le_refl _
    · rw [if_neg c]
      split <;> decide
  have b : (if r i < r i ∨ (r i = r i ∧ i < i) then (1 : Int) else 0) + 1 ≤ (if r j < r i ∨ (r i = r j ∧ i < j) then (1 : Int) else 0) := by
    rw [if_pos h, if_neg (by omega)]
    decide
  unfold ahd
  rw [z4, z4]
  have a0 := a 0
  have a1 := a 1
  have a2 := a 2
  have a3 := a 3
  obtain rfl | rfl | rfl | rfl : i = 0 ∨ i = 1 ∨ i = 2 ∨ i = 3 := by omega <;> omega
  all_goals omega
/-- the first greatest of what is left is the next one -/
theorem ahd_pick {r g : Int → Int} {t F : Int} (hr : ∀ j, 0 ≤ j → j < 4 → 0 ≤ r j) (ht : 0 ≤ t ∧ t ≤ 2) (hg : ∀ j, 0 ≤ j → j < 4 → g j = if ahd r j < t then -1 else r j) (hF : 0 ≤ F ∧ F < 4) (hm : ∀ j, 0 ≤ j → j < 4 → g j ≤ g F ∧ (j < F → g j < g F)) : ahd r F = t := by
  have hp := ahd_perm r (L := t) (by omega)
  have hq := ahd_perm r (L := t + 1) (by omega)
  obtain ⟨J, hJ, hA⟩ : ∃ J : Int, (0 ≤ J ∧ J < 4) ∧ ahd r J = t := Classical.byContradiction fun hn => by
    have e : ∀ j : Int, 0 ≤ j → j < 4 → (if ahd r j < t + 1 then (1 : Int) else 0) = (if ahd r j < t then (1 : Int) else 0) := fun j a b => by
      have : ahd r j ≠ t := fun hh => hn ⟨j, ⟨a, b⟩, hh⟩
      by_cases c : ahd r j < t
      · rw [if_pos c, if_pos (by omega)]
      · rw [if_neg c, if_neg (by omega)]
    rw [e 0 (by decide) (by decide), e 1 (by decide) (by decide), e 2 (by decide) (by decide), e 3 (by decide) (by decide)] at hq
    omega
  have gJ := hg J hJ.1 hJ.2
  rw [if_neg (by omega)] at gJ
  have rJ := hr J hJ.1 hJ.2
  obtain ⟨m1, m2⟩ := hm J hJ.1 hJ.2
  have gF := hg F hF.1 hF.2
  by_cases c : ahd r F < t
  · rw [if_pos c] at gF
    omega
  · rw [if_neg c] at gF
    by_cases c2 : ahd r F = t
    · exact c2
    · exfalso
      by_cases c3 : r J < r F ∨ (r F = r J ∧ F < J)
      · have := ahd_lt hF c3
        omega
      · by_cases c4 : J < F
        · have := m2 c4
          omega
        · by_cases c5 : J = F
          · subst c5
            omega
          · omega
theorem mLeft_b {f : Int → Int} (h : okT f) {n : Int} (hn : 0 ≤ n) : 0 ≤ mLeft f n ∧ mLeft f n ≤ 3 ∧ (∀ j, 0 ≤ j → j < 4 → 0 ≤ mRem f n j ∧ 0 ≤ mQuo f n j) := by
  obtain ⟨h8, h9, h10, h11, hT⟩ := h
  have z4 : ∀ f : Int → Int, zsum f 4 = 0 + f 0 + f 1 + f 2 + f 3 := fun f => rfl
  have eT : mT f = f 8 + f 9 + f 10 + f 11 := rfl
  have hq : ∀ j, 0 ≤ f (8 + j) → mT f * mQuo f n j + mRem f n j = n * f (8 + j) ∧ 0 ≤ mQuo f n j ∧ 0 ≤ mRem f n j ∧ mRem f n j < mT f := fun j hj =>
    ⟨Int.mul_ediv_add_emod _ _, Int.ediv_nonneg (Int.mul_nonneg hn hj) (by omega), Int.emod_nonneg _ (by omega), Int.emod_lt_of_pos _ (by omega)⟩
  obtain ⟨e0, a0, b0, c0⟩ := hq 0 h8
  obtain ⟨e1, a1, b1, c1⟩ := hq 1 h9
  obtain ⟨e2, a2, b2, c2⟩ := hq 2 h10
  obtain ⟨e3, a3, b3, c3⟩ := hq 3 h11
  have eL : mLeft f n = n - (mQuo f n 0 + mQuo f n 1 + mQuo f n 2 + mQuo f n 3) := by
    unfold mLeft
    rw [z4]
    omega
  have em : mT f * mLeft f n = mRem f n 0 + mRem f n 1 + mRem f n 2 + mRem f n 3 := by
    rw [eL, Int.mul_sub, Int.mul_add, Int.mul_add, Int.mul_add]
    have e5 : mT f * n = n * f 8 + n * f 9 + n * f 10 + n * f 11 := by rw [eT, Int.mul_comm, Int.mul_add, Int.mul_add, Int.mul_add]
    rw [show (8 : Int) + 0 = 8 from rfl] at e0
    rw [show (8 : Int) + 1 = 9 from rfl] at e1
    rw [show (8 : Int) + 2 = 10 from rfl] at e2
    rw [show (8 : Int) + 3 = 11 from rfl] at e3
    omega
  have hTp : 0 < mT f := by omega
  refine ⟨Int.not_lt.mp fun q => ?_, Int.not_lt.mp fun q => ?_, fun j a b => ?_⟩
  · have := Int.mul_neg_of_pos_of_neg hTp q
    omega
  · have := Int.mul_le_mul_of_nonneg_left (show (4 : Int) ≤ mLeft f n by omega) (show 0 ≤ mT f by omega)
    omega
  · obtain rfl | rfl | rfl | rfl : j = 0 ∨ j = 1 ∨ j = 2 ∨ j = 3 := by omega
    · exact ⟨b0, a0⟩
    · exact ⟨b1, a1⟩
    · exact ⟨b2, a2⟩
    · exact ⟨b3, a3⟩
/-- the shares and the remainders after t of the pounds left are given out -/
def shG (f : Int → Int) (n t j : Int) : Int := mQuo f n j + (if ahd (fun i => mRem f n i) j < t then 1 else 0)
def shR (f : Int → Int) (n t j : Int) : Int := if ahd (fun i => mRem f n i) j < t then -1 else mRem f n j
end ZS9
