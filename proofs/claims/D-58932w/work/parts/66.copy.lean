/-! COPIES of elements; the State made, begun, copied -/
section ZCOPY
theorem fit_b {a : Int} (h : a = 0 ∨ a = 1) : fits .boolean (vI a) = true := by
  rcases h with rfl | rfl <;> decide
theorem rW.at {b : Nat → Nat} {h h' : GH} {sh sh' : Sh} {R R' : RS} (w : rW b h sh R) (a : rX b h noF sh' R' h') : rX b h' (fpS sh R) sh R h' := (w.le a.2.1 (fun _ _ h => h) (fun _ _ h => h.elim)).start
/-- an element taken out of its list keeps its cell -/
theorem rX.lsk {b : Nat → Nat} {h0 h h' : GH} {F : Nat → Prop} {sh : Sh} {f : Int → Int} {rc : Nat} {Ls : Nat → ELs} {i : Nat} (a : rX b h0 F sh (f, rc, Ls) h) (hi : i < 6) (hf : hF h (fpL (sh.2.1 i) (sh.2.2 i)) h') {q ci : Nat} {fs : List Value} (hq : h q = some (zO ci fs)) (hc : ci ≠ 13) : h' q = some (zO ci fs) :=
  hf.2 _ _ hq fun hx => by
    have hal : alA b h (sh.2.1 i) (sh.2.2 i) (adr (Ls i)) := a.1.2.1 i hi
    rcases hx with rfl | hx
    · obtain ⟨m, hm⟩ := hal.1
      rw [hm] at hq
      exact hc (zO_ci hq).symm
    · obtain ⟨cap, g, e1, -⟩ := hal.2.2 q hx
      rw [e1] at hq
      cases hq
theorem rX.rmel {b : Nat → Nat} {h0 h h' : GH} {F : Nat → Prop} {sh : Sh} {f : Int → Int} {rc : Nat} {Ls : Nat → ELs} {i : Nat} (a : rX b h0 F sh (f, rc, Ls) h) (hi : i < 6) {j q : Nat} {e : El} (hk : (Ls i)[j]? = some (q, e)) (hf : hF h (fpL (sh.2.1 i) (sh.2.2 i)) h') : h' q = some (cellE b i e) := by
  have hq := a.1.el (i := i) hi hk
  obtain ⟨fs, ef⟩ := cellE_cls (b := b) (i := i) (e := e)
  rw [ef] at hq ⊢
  exact a.lsk hi hf hq clsE_6.2
theorem Y_X4_copy : zYV yX4_copy cX4_copy 2 (some (.object "PaperMill$Carter")) 0 := ⟨⟨q620, q621, q118, q622⟩, by decide +kernel, by decide⟩
set_option maxRecDepth 100000 in
theorem c_X4_copy (l : Launch) (g : zG) (h : GH) (a : Nat) (x y : Int) (hq : h a = some (zO 3 [vI x, vI y])) : zMet l yX4_copy cX4_copy 2 (some (.object "PaperMill$Carter")) 3 1 2 [vR a] g h (fun v h' => ∃ q : Nat, v = some (vR q) ∧ h q = none ∧ h' = hset h q (zO 3 [vI x, vI y])) := by
  refine zMet.mk (L0 := [some (vR a), none]) (by decide) rfl (Nat.le_of_ble_eq_true rfl) rfl (fun C hg hl hnm X => ?_)
  subst hg hl
  refine z_new1 (pc' := 3) X (ci := 3) (fs := [vI 0, vI 0]) in_X4 tyX4 tyX4_ok q623 q282 q118 rfl df_X4 dX4_copy_0 rfl (Nat.le_of_ble_eq_true rfl) (Nat.le_of_ble_eq_true rfl) (fun q1 h1 n1 e1 => ?_)
  have g1 := (congrFun e1 q1).trans hset_s
  have fa2 := (congrFun e1 _).trans (hset_f hq n1)
  refine z_dup (pc' := 4) X rfl dX4_copy_3 rfl ?_
  refine z_callI1 (pc' := 7) X Y_X4_init q624 dX4_copy_4 rfl (Nat.le_of_ble_eq_true rfl) (Nat.le_of_ble_eq_true rfl) (Nat.le_of_ble_eq_true rfl) rfl rfl (Nat.le_of_ble_eq_true rfl) (c_X4_init _ _ _ (q1)  g1) (fun v3 h3 p3 => ?_)
  obtain ⟨ev3, p3⟩ := p3
  subst ev3
  dsimp only [zst]
  have e3 := p3.trans (by rw [e1, hset_hset])
  have g3 := (congrFun e3 q1).trans hset_s
  have fa4 := (congrFun e3 _).trans (hset_f hq n1)
  refine z_astore_n (pc' := 8) X dX4_copy_7 rfl (by decide) rfl ?_
  dsimp only [List.set]
  refine z_aload_n (pc' := 9) X dX4_copy_8 rfl rfl ?_
  refine z_aload_n (pc' := 10) X dX4_copy_9 rfl rfl ?_
  refine z_get1 (pc' := 13) (kf := 0) X in_X4 rfl (by decide) q287 (Or.inl rfl) fa4 rfl dX4_copy_10 rfl ?_
  refine z_put1 (pc' := 16) (kf := 0) X in_X4 tyX4 tyX4_ok nmX4 rfl (by decide) q287 (Or.inl rfl) rfl rfl rfl (Nat.le_of_ble_eq_true rfl) g3 dX4_copy_13 rfl (fun h5 e5 => ?_)
  have g5 := (congrFun e5 q1).trans hset_s
  try dsimp only [List.set] at g5
  have fa6 := (congrFun e5 _).trans ((hset_n (fun hh => by rw [hh, n1] at hq; cases hq)).trans fa4)
  refine z_aload_n (pc' := 17) X dX4_copy_16 rfl rfl ?_
  refine z_aload_n (pc' := 18) X dX4_copy_17 rfl rfl ?_
  refine z_get1 (pc' := 21) (kf := 1) X in_X4 rfl (by decide) q290 (Or.inl rfl) fa6 rfl dX4_copy_18 rfl ?_
  refine z_put1 (pc' := 24) (kf := 1) X in_X4 tyX4 tyX4_ok nmX4 rfl (by decide) q290 (Or.inl rfl) rfl rfl rfl (Nat.le_of_ble_eq_true rfl) g5 dX4_copy_21 rfl (fun h7 e7 => ?_)
  have g7 := (congrFun e7 q1).trans hset_s
  try dsimp only [List.set] at g7
  have fa8 := (congrFun e7 _).trans ((hset_n (fun hh => by rw [hh, n1] at hq; cases hq)).trans fa6)
  refine z_aload_n (pc' := 25) X dX4_copy_24 rfl rfl ?_
  refine z_aret1 X (Or.inl ⟨_, rfl⟩) dX4_copy_25 (Nat.le_of_ble_eq_true rfl) (Nat.le_of_ble_eq_true rfl) ?_
  exact ⟨q1, rfl, n1, by rw [e7, e5, e3, hset_hset, hset_hset]; rfl⟩
theorem Y_X5_copy : zYV yX5_copy cX5_copy 2 (some (.object "PaperMill$Vat")) 0 := ⟨⟨q662, q663, q123, q664⟩, by decide +kernel, by decide⟩
set_option maxRecDepth 100000 in
theorem c_X5_copy (l : Launch) (g : zG) (h : GH) (a : Nat) (x y z : Int) (hq : h a = some (zO 4 [vI x, vI y, vI z])) : zMet l yX5_copy cX5_copy 2 (some (.object "PaperMill$Vat")) 3 1 3 [vR a] g h (fun v h' => ∃ q : Nat, v = some (vR q) ∧ h q = none ∧ h' = hset h q (zO 4 [vI x, vI y, vI z])) := by
  refine zMet.mk (L0 := [some (vR a), none]) (by decide) rfl (Nat.le_of_ble_eq_true rfl) rfl (fun C hg hl hnm X => ?_)
  subst hg hl
  refine z_new1 (pc' := 3) X (ci := 4) (fs := [vI 0, vI 0, vI 0]) in_X5 tyX5 tyX5_ok q665 q381 q123 rfl df_X5 dX5_copy_0 rfl (Nat.le_of_ble_eq_true rfl) (Nat.le_of_ble_eq_true rfl) (fun q1 h1 n1 e1 => ?_)
  have g1 := (congrFun e1 q1).trans hset_s
  have fa2 := (congrFun e1 _).trans (hset_f hq n1)
  refine z_dup (pc' := 4) X rfl dX5_copy_3 rfl ?_
  refine z_callI0 (pc' := 7) X Y_X5_init q666 dX5_copy_4 rfl (Nat.le_of_ble_eq_true rfl) (Nat.le_of_ble_eq_true rfl) (Nat.le_of_ble_eq_true rfl) rfl rfl (Nat.le_of_ble_eq_true rfl) (c_X5_init _ _ _ (q1)) ?_
  dsimp only [zst]
  refine z_astore_n (pc' := 8) X dX5_copy_7 rfl (by decide) rfl ?_
  dsimp only [List.set]
  refine z_aload_n (pc' := 9) X dX5_copy_8 rfl rfl ?_
  refine z_aload_n (pc' := 10) X dX5_copy_9 rfl rfl ?_
  refine z_get1 (pc' := 13) (kf := 0) X in_X5 rfl (by decide) q386 (Or.inl rfl) fa2 rfl dX5_copy_10 rfl ?_
  refine z_put1 (pc' := 16) (kf := 0) X in_X5 tyX5 tyX5_ok nmX5 rfl (by decide) q386 (Or.inl rfl) rfl rfl rfl (Nat.le_of_ble_eq_true rfl) g1 dX5_copy_13 rfl (fun h4 e4 => ?_)
  have g4 := (congrFun e4 q1).trans hset_s
  try dsimp only [List.set] at g4
  have fa5 := (congrFun e4 _).trans ((hset_n (fun hh => by rw [hh, n1] at hq; cases hq)).trans fa2)
  refine z_aload_n (pc' := 17) X dX5_copy_16 rfl rfl ?_
  refine z_aload_n (pc' := 18) X dX5_copy_17 rfl rfl ?_
  refine z_get1 (pc' := 21) (kf := 1) X in_X5 rfl (by decide) q389 (Or.inl rfl) fa5 rfl dX5_copy_18 rfl ?_
  refine z_put1 (pc' := 24) (kf := 1) X in_X5 tyX5 tyX5_ok nmX5 rfl (by decide) q389 (Or.inl rfl) rfl rfl rfl (Nat.le_of_ble_eq_true rfl) g4 dX5_copy_21 rfl (fun h6 e6 => ?_)
  have g6 := (congrFun e6 q1).trans hset_s
  try dsimp only [List.set] at g6
  have fa7 := (congrFun e6 _).trans ((hset_n (fun hh => by rw [hh, n1] at hq; cases hq)).trans fa5)
  refine z_aload_n (pc' := 25) X dX5_copy_24 rfl rfl ?_
  refine z_aload_n (pc' := 26) X dX5_copy_25 rfl rfl ?_
  refine z_get1 (pc' := 29) (kf := 2) X in_X5 rfl (by decide) q392 (Or.inl rfl) fa7 rfl dX5_copy_26 rfl ?_
  refine z_put1 (pc' := 32) (kf := 2) X in_X5 tyX5 tyX5_ok nmX5 rfl (by decide) q392 (Or.inl rfl) rfl rfl rfl (Nat.le_of_ble_eq_true rfl) g6 dX5_copy_29 rfl (fun h8 e8 => ?_)
  have g8 := (congrFun e8 q1).trans hset_s
  try dsimp only [List.set] at g8
  have fa9 := (congrFun e8 _).trans ((hset_n (fun hh => by rw [hh, n1] at hq; cases hq)).trans fa7)
  refine z_aload_n (pc' := 33) X dX5_copy_32 rfl rfl ?_
  refine z_aret1 X (Or.inl ⟨_, rfl⟩) dX5_copy_33 (Nat.le_of_ble_eq_true rfl) (Nat.le_of_ble_eq_true rfl) ?_
  exact ⟨q1, rfl, n1, by rw [e8, e6, e4, e1, hset_hset, hset_hset, hset_hset]; rfl⟩
theorem Y_X6_copy : zYV yX6_copy cX6_copy 2 (some (.object "PaperMill$Mould")) 0 := ⟨⟨q668, q669, q124, q670⟩, by decide +kernel, by decide⟩
set_option maxRecDepth 100000 in
theorem c_X6_copy (l : Launch) (g : zG) (h : GH) (a s : Nat) (x y z : Int) (hq : h a = some (zO 5 [vR s, vI x, vI y, vI z])) : zMet l yX6_copy cX6_copy 2 (some (.object "PaperMill$Mould")) 3 1 4 [vR a] g h (fun v h' => ∃ q : Nat, v = some (vR q) ∧ h q = none ∧ h' = hset h q (zO 5 [vR s, vI x, vI y, vI z])) := by
  refine zMet.mk (L0 := [some (vR a), none]) (by decide) rfl (Nat.le_of_ble_eq_true rfl) rfl (fun C hg hl hnm X => ?_)
  subst hg hl
  refine z_new1 (pc' := 3) X (ci := 5) (fs := [Value.null, vI 0, vI 0, vI 0]) in_X6 tyX6 tyX6_ok q671 q403 q124 rfl df_X6 dX6_copy_0 rfl (Nat.le_of_ble_eq_true rfl) (Nat.le_of_ble_eq_true rfl) (fun q1 h1 n1 e1 => ?_)
  have g1 := (congrFun e1 q1).trans hset_s
  have fa2 := (congrFun e1 _).trans (hset_f hq n1)
  refine z_dup (pc' := 4) X rfl dX6_copy_3 rfl ?_
  refine z_aload_n (pc' := 5) X dX6_copy_4 rfl rfl ?_
  refine z_get1 (pc' := 8) (kf := 1) X in_X6 rfl (by decide) q419 (Or.inl rfl) fa2 rfl dX6_copy_5 rfl ?_
  refine z_aload_n (pc' := 9) X dX6_copy_8 rfl rfl ?_
  refine z_get1 (pc' := 12) (kf := 0) X in_X6 rfl (by decide) q417 (Or.inl rfl) fa2 rfl dX6_copy_9 rfl ?_
  refine z_callI1 (pc' := 15) X Y_X6_init q672 dX6_copy_12 rfl (Nat.le_of_ble_eq_true rfl) (Nat.le_of_ble_eq_true rfl) (Nat.le_of_ble_eq_true rfl) rfl rfl (Nat.le_of_ble_eq_true rfl) (c_X6_init _ _ _ (q1) (s) (x) g1) (fun v3 h3 p3 => ?_)
  obtain ⟨ev3, p3⟩ := p3
  subst ev3
  dsimp only [zst]
  have e3 := p3.trans (by rw [e1, hset_hset])
  have g3 := (congrFun e3 q1).trans hset_s
  have fa4 := (congrFun e3 _).trans (hset_f hq n1)
  refine z_astore_n (pc' := 16) X dX6_copy_15 rfl (by decide) rfl ?_
  dsimp only [List.set]
  refine z_aload_n (pc' := 17) X dX6_copy_16 rfl rfl ?_
  refine z_aload_n (pc' := 18) X dX6_copy_17 rfl rfl ?_
  refine z_get1 (pc' := 21) (kf := 2) X in_X6 rfl (by decide) q422 (Or.inl rfl) fa4 rfl dX6_copy_18 rfl ?_
  refine z_put1 (pc' := 24) (kf := 2) X in_X6 tyX6 tyX6_ok nmX6 rfl (by decide) q422 (Or.inl rfl) rfl rfl rfl (Nat.le_of_ble_eq_true rfl) g3 dX6_copy_21 rfl (fun h5 e5 => ?_)
  have g5 := (congrFun e5 q1).trans hset_s
  try dsimp only [List.set] at g5
  have fa6 := (congrFun e5 _).trans ((hset_n (fun hh => by rw [hh, n1] at hq; cases hq)).trans fa4)
  refine z_aload_n (pc' := 25) X dX6_copy_24 rfl rfl ?_
  refine z_aload_n (pc' := 26) X dX6_copy_25 rfl rfl ?_
  refine z_get1 (pc' := 29) (kf := 3) X in_X6 rfl (by decide) q425 (Or.inl rfl) fa6 rfl dX6_copy_26 rfl ?_
  refine z_put1 (pc' := 32) (kf := 3) X in_X6 tyX6 tyX6_ok nmX6 rfl (by decide) q425 (Or.inl rfl) rfl rfl rfl (Nat.le_of_ble_eq_true rfl) g5 dX6_copy_29 rfl (fun h7 e7 => ?_)
  have g7 := (congrFun e7 q1).trans hset_s
  try dsimp only [List.set] at g7
  have fa8 := (congrFun e7 _).trans ((hset_n (fun hh => by rw [hh, n1] at hq; cases hq)).trans fa6)
  refine z_aload_n (pc' := 33) X dX6_copy_32 rfl rfl ?_
  refine z_aret1 X (Or.inl ⟨_, rfl⟩) dX6_copy_33 (Nat.le_of_ble_eq_true rfl) (Nat.le_of_ble_eq_true rfl) ?_
  exact ⟨q1, rfl, n1, by rw [e7, e5, e3, hset_hset, hset_hset]; rfl⟩
theorem Y_X9_copy : zYV yX9_copy cX9_copy 2 (some (.object "PaperMill$Bale")) 0 := ⟨⟨q626, q627, q142, q628⟩, by decide +kernel, by decide⟩
set_option maxRecDepth 100000 in
theorem c_X9_copy (l : Launch) (g : zG) (h : GH) (a : Nat) (x y z w m : Int) (hm : m = 0 ∨ m = 1) (hq : h a = some (zO 7 [vI x, vI y, vI z, vI w, vI m])) : zMet l yX9_copy cX9_copy 2 (some (.object "PaperMill$Bale")) 3 1 5 [vR a] g h (fun v h' => ∃ q : Nat, v = some (vR q) ∧ h q = none ∧ h' = hset h q (zO 7 [vI x, vI y, vI z, vI w, vI m])) := by
  refine zMet.mk (L0 := [some (vR a), none]) (by decide) rfl (Nat.le_of_ble_eq_true rfl) rfl (fun C hg hl hnm X => ?_)
  subst hg hl
  refine z_new1 (pc' := 3) X (ci := 7) (fs := [vI 0, vI 0, vI 0, vI 0, vI 0]) in_X9 tyX9 tyX9_ok q629 q630 q142 rfl df_X9 dX9_copy_0 rfl (Nat.le_of_ble_eq_true rfl) (Nat.le_of_ble_eq_true rfl) (fun q1 h1 n1 e1 => ?_)
  have g1 := (congrFun e1 q1).trans hset_s
  have fa2 := (congrFun e1 _).trans (hset_f hq n1)
  refine z_dup (pc' := 4) X rfl dX9_copy_3 rfl ?_
  refine z_aload_n (pc' := 5) X dX9_copy_4 rfl rfl ?_
  refine z_get1 (pc' := 8) (kf := 0) X in_X9 rfl (by decide) q635 (Or.inl rfl) fa2 rfl dX9_copy_5 rfl ?_
  refine z_aload_n (pc' := 9) X dX9_copy_8 rfl rfl ?_
  refine z_get1 (pc' := 12) (kf := 1) X in_X9 rfl (by decide) q638 (Or.inl rfl) fa2 rfl dX9_copy_9 rfl ?_
  refine z_aload_n (pc' := 13) X dX9_copy_12 rfl rfl ?_
  refine z_get1 (pc' := 16) (kf := 2) X in_X9 rfl (by decide) q641 (Or.inl rfl) fa2 rfl dX9_copy_13 rfl ?_
  refine z_callI1 (pc' := 19) X Y_X9_init q631 dX9_copy_16 rfl (Nat.le_of_ble_eq_true rfl) (Nat.le_of_ble_eq_true rfl) (Nat.le_of_ble_eq_true rfl) rfl rfl (Nat.le_of_ble_eq_true rfl) (c_X9_init _ _ _ (q1) (x) (y) (z) g1) (fun v3 h3 p3 => ?_)
  obtain ⟨ev3, p3⟩ := p3
  subst ev3
  dsimp only [zst]
  have e3 := p3.trans (by rw [e1, hset_hset])
  have g3 := (congrFun e3 q1).trans hset_s
  have fa4 := (congrFun e3 _).trans (hset_f hq n1)
  refine z_astore_n (pc' := 20) X dX9_copy_19 rfl (by decide) rfl ?_
  dsimp only [List.set]
  refine z_aload_n (pc' := 21) X dX9_copy_20 rfl rfl ?_
  refine z_aload_n (pc' := 22) X dX9_copy_21 rfl rfl ?_
  refine z_get1 (pc' := 25) (kf := 3) X in_X9 rfl (by decide) q644 (Or.inl rfl) fa4 rfl dX9_copy_22 rfl ?_
  refine z_put1 (pc' := 28) (kf := 3) X in_X9 tyX9 tyX9_ok nmX9 rfl (by decide) q644 (Or.inl rfl) rfl rfl rfl (Nat.le_of_ble_eq_true rfl) g3 dX9_copy_25 rfl (fun h5 e5 => ?_)
  have g5 := (congrFun e5 q1).trans hset_s
  try dsimp only [List.set] at g5
  have fa6 := (congrFun e5 _).trans ((hset_n (fun hh => by rw [hh, n1] at hq; cases hq)).trans fa4)
  refine z_aload_n (pc' := 29) X dX9_copy_28 rfl rfl ?_
  refine z_aload_n (pc' := 30) X dX9_copy_29 rfl rfl ?_
  refine z_get1 (pc' := 33) (kf := 4) X in_X9 rfl (by decide) q647 (Or.inl rfl) fa6 rfl dX9_copy_30 rfl ?_
  refine z_put1 (pc' := 36) (kf := 4) X in_X9 tyX9 tyX9_ok nmX9 rfl (by decide) q647 (Or.inl rfl) rfl (by exact nar_b hm) (by first | decide | exact fit_b (by omega)) (Nat.le_of_ble_eq_true rfl) g5 dX9_copy_33 rfl (fun h7 e7 => ?_)
  have g7 := (congrFun e7 q1).trans hset_s
  try dsimp only [List.set] at g7
  have fa8 := (congrFun e7 _).trans ((hset_n (fun hh => by rw [hh, n1] at hq; cases hq)).trans fa6)
  refine z_aload_n (pc' := 37) X dX9_copy_36 rfl rfl ?_
  refine z_aret1 X (Or.inl ⟨_, rfl⟩) dX9_copy_37 (Nat.le_of_ble_eq_true rfl) (Nat.le_of_ble_eq_true rfl) ?_
  exact ⟨q1, rfl, n1, by rw [e7, e5, e3, hset_hset, hset_hset]; rfl⟩
theorem Y_X10_copy : zYV yX10_copy cX10_copy 2 (some (.object "PaperMill$Pile")) 0 := ⟨⟨q674, q675, q143, q676⟩, by decide +kernel, by decide⟩
set_option maxRecDepth 100000 in
theorem c_X10_copy (l : Launch) (g : zG) (h : GH) (a s r : Nat) (x y z : Int) (hq : h a = some (zO 8 [vI x, vR s, vR r, vI y, vI z])) : zMet l yX10_copy cX10_copy 2 (some (.object "PaperMill$Pile")) 3 1 5 [vR a] g h (fun v h' => ∃ q : Nat, v = some (vR q) ∧ h q = none ∧ h' = hset h q (zO 8 [vI x, vR s, vR r, vI y, vI z])) := by
  refine zMet.mk (L0 := [some (vR a), none]) (by decide) rfl (Nat.le_of_ble_eq_true rfl) rfl (fun C hg hl hnm X => ?_)
  subst hg hl
  refine z_new1 (pc' := 3) X (ci := 8) (fs := [vI 0, Value.null, Value.null, vI 0, vI 0]) in_X10 tyX10 tyX10_ok q677 q678 q143 rfl df_X10 dX10_copy_0 rfl (Nat.le_of_ble_eq_true rfl) (Nat.le_of_ble_eq_true rfl) (fun q1 h1 n1 e1 => ?_)
  have g1 := (congrFun e1 q1).trans hset_s
  have fa2 := (congrFun e1 _).trans (hset_f hq n1)
  refine z_dup (pc' := 4) X rfl dX10_copy_3 rfl ?_
  refine z_aload_n (pc' := 5) X dX10_copy_4 rfl rfl ?_
  refine z_get1 (pc' := 8) (kf := 0) X in_X10 rfl (by decide) q683 (Or.inl rfl) fa2 rfl dX10_copy_5 rfl ?_
  refine z_aload_n (pc' := 9) X dX10_copy_8 rfl rfl ?_
  refine z_get1 (pc' := 12) (kf := 1) X in_X10 rfl (by decide) q684 (Or.inl rfl) fa2 rfl dX10_copy_9 rfl ?_
  refine z_aload_n (pc' := 13) X dX10_copy_12 rfl rfl ?_
  refine z_get1 (pc' := 16) (kf := 2) X in_X10 rfl (by decide) q686 (Or.inl rfl) fa2 rfl dX10_copy_13 rfl ?_
  refine z_aload_n (pc' := 17) X dX10_copy_16 rfl rfl ?_
  refine z_get1 (pc' := 20) (kf := 3) X in_X10 rfl (by decide) q688 (Or.inl rfl) fa2 rfl dX10_copy_17 rfl ?_
  refine z_callI1 (pc' := 23) X Y_X10_init q679 dX10_copy_20 rfl (Nat.le_of_ble_eq_true rfl) (Nat.le_of_ble_eq_true rfl) (Nat.le_of_ble_eq_true rfl) rfl rfl (Nat.le_of_ble_eq_true rfl) (c_X10_init _ _ _ (q1) (s) (r) (x) (y) g1) (fun v3 h3 p3 => ?_)
  obtain ⟨ev3, p3⟩ := p3
  subst ev3
  dsimp only [zst]
  have e3 := p3.trans (by rw [e1, hset_hset])
  have g3 := (congrFun e3 q1).trans hset_s
  have fa4 := (congrFun e3 _).trans (hset_f hq n1)
  refine z_astore_n (pc' := 24) X dX10_copy_23 rfl (by decide) rfl ?_
  dsimp only [List.set]
  refine z_aload_n (pc' := 25) X dX10_copy_24 rfl rfl ?_
  refine z_aload_n (pc' := 26) X dX10_copy_25 rfl rfl ?_
  refine z_get1 (pc' := 29) (kf := 4) X in_X10 rfl (by decide) q691 (Or.inl rfl) fa4 rfl dX10_copy_26 rfl ?_
  refine z_put1 (pc' := 32) (kf := 4) X in_X10 tyX10 tyX10_ok nmX10 rfl (by decide) q691 (Or.inl rfl) rfl rfl rfl (Nat.le_of_ble_eq_true rfl) g3 dX10_copy_29 rfl (fun h5 e5 => ?_)
  have g5 := (congrFun e5 q1).trans hset_s
  try dsimp only [List.set] at g5
  have fa6 := (congrFun e5 _).trans ((hset_n (fun hh => by rw [hh, n1] at hq; cases hq)).trans fa4)
  refine z_aload_n (pc' := 33) X dX10_copy_32 rfl rfl ?_
  refine z_aret1 X (Or.inl ⟨_, rfl⟩) dX10_copy_33 (Nat.le_of_ble_eq_true rfl) (Nat.le_of_ble_eq_true rfl) ?_
  exact ⟨q1, rfl, n1, by rw [e5, e3, hset_hset]; rfl⟩
set_option maxRecDepth 100000 in
theorem c_J2_init_x (l : Launch) (g : zG) (h : GH) (a : Nat) (hq : h a = some (zO 13 [vI 0, .null, vI 0])) : zMet l yJ2_init cJ2_init 1 none 3 0 0 [vR a] g h (fun w h' => w = none ∧ h' = hset h a (zO 13 [vI 0, vR (g.2.2 6), vI 0])) := by
  refine zMet.mkF (L0 := [some (vR a)]) (by decide +kernel) rfl (Nat.le_of_ble_eq_true rfl) rfl (fun C hg hl hnm X => ?_)
  subst hg hl
  refine z_aload_n (pc' := 1) X dJ2_init_0 rfl rfl ?_
  refine z_callI1 (pc' := 4) X Y_J1_init q191 dJ2_init_1 rfl (Nat.le_of_ble_eq_true rfl) (Nat.le_of_ble_eq_true rfl) (Nat.le_of_ble_eq_true rfl) rfl rfl (Nat.le_of_ble_eq_true rfl) (c_J1_init _ _ _ a .null 0 hq) (fun v1 h1 p1 => ?_)
  obtain ⟨ev1, e1⟩ := p1
  subst ev1
  dsimp only [zst]
  have g1 := (congrFun e1 a).trans hset_s
  try dsimp only [List.set] at g1
  refine z_aload_n (pc' := 5) X dJ2_init_4 rfl rfl ?_
  refine z_gets (pc' := 8) X (fun U hU => hU.2.2.1.1) q198 rfl dJ2_init_5 rfl ?_
  refine z_put1 (pc' := 11) (kf := 1) X in_J2 tyJ2 tyJ2_ok nmJ2 rfl (by decide) q200 (Or.inl rfl) rfl rfl rfl (Nat.le_of_ble_eq_true rfl) g1 dJ2_init_8 rfl (fun h2 e2 => ?_)
  have g2 := (congrFun e2 a).trans hset_s
  try dsimp only [List.set] at g2
  refine z_ret1 X dJ2_init_11 (Nat.le_of_ble_eq_true rfl) (Nat.le_of_ble_eq_true rfl) ?_
  exact ⟨rfl, by rw [e2, e1, hset_hset]; rfl⟩
end ZCOPY
