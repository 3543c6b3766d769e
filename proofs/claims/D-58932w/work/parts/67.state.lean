/-! THE STATE: made, begun, copied -/
section ZSTATE
/-- the numbers of a State just made -/
def fI (j : Int) : Int := if j = 1 then 500 else if j = 3 then 60 else if j = 8 then 1 else 0
theorem six {P : Nat → Prop} (h0 : P 0) (h1 : P 1) (h2 : P 2) (h3 : P 3) (h4 : P 4) (h5 : P 5) : ∀ i, i < 6 → P i := fun i hi => by
  have : i = 0 ∨ i = 1 ∨ i = 2 ∨ i = 3 ∨ i = 4 ∨ i = 5 := by omega
  rcases this with rfl | rfl | rfl | rfl | rfl | rfl <;> assumption
theorem rX.mk0 {b : Nat → Nat} {h0 h' : GH} {a rag l0 l1 l2 l3 l4 l5 : Nat} (hA : h' a = some (zO 1 [vI 0, vI 500, vI 60, vI 0, vR rag, vI 0, vI 0, vI 0, vI 0, vI 0, vI 0, vR l0, vR l1, vR l2, vR l3, vR l4, vR l5])) (hR : h' rag = some (zO 2 [vI 0, vI 1]))
    (e0 : h' l0 = some (zO 13 [vI 0, vR (b 6), vI 0])) (e1 : h' l1 = some (zO 13 [vI 0, vR (b 6), vI 0])) (e2 : h' l2 = some (zO 13 [vI 0, vR (b 6), vI 0])) (e3 : h' l3 = some (zO 13 [vI 0, vR (b 6), vI 0])) (e4 : h' l4 = some (zO 13 [vI 0, vR (b 6), vI 0])) (e5 : h' l5 = some (zO 13 [vI 0, vR (b 6), vI 0]))
    (hn : [l0, l1, l2, l3, l4, l5].Nodup) (hf : hF h0 (fun x => x = a) h') (hfr : ∀ l ∈ [l0, l1, l2, l3, l4, l5], h0 l = none) : rX b h0 (fun x => x = a) (a, fun i => [l0, l1, l2, l3, l4, l5].getD i 0, fun _ => none) (fI, rag, fun _ => []) h' := by
  have al : ∀ l, h' l = some (zO 13 [vI 0, vR (b 6), vI 0]) → alA b h' l none (adr []) := fun l hl => ⟨⟨0, hl⟩, fun _ => rfl, fun x hx => (nomatch hx)⟩
  have gt : ∀ i, i < 6 → [l0, l1, l2, l3, l4, l5][i]? = some ([l0, l1, l2, l3, l4, l5].getD i 0) := six rfl rfl rfl rfl rfl rfl
  refine ⟨⟨hA, six (al _ e0) (al _ e1) (al _ e2) (al _ e3) (al _ e4) (al _ e5), fun i _ q e hq => (nomatch hq), fun i j hi hj e => ?_, fun i j x _ _ hx => (nomatch hx), fun _ _ => List.nodup_nil, Or.inl ⟨0, 1, hR, by decide, fun j hj hj2 => ?_, rfl⟩⟩, hf, fun q hq => ?_⟩
  · have e : [l0, l1, l2, l3, l4, l5].getD i 0 = [l0, l1, l2, l3, l4, l5].getD j 0 := e
    exact (List.getElem?_inj hi hn).mp ((gt i hi).trans ((congrArg some e).trans (gt j hj).symm))
  · have : j = 0 ∨ j = 1 ∨ j = 2 ∨ j = 3 := by omega
    rcases this with rfl | rfl | rfl | rfl <;> rfl
  · rcases hq with hq | ⟨i, hi, hq | hq⟩ | ⟨i, _, e, hq⟩
    · exact Or.inl hq
    · have hq : q = [l0, l1, l2, l3, l4, l5].getD i 0 := hq
      exact Or.inr (hfr q (by rw [hq]; exact List.mem_of_getElem? (gt i hi)))
    · cases hq
    · cases hq
theorem Y_X2_init : zYI yX2_init cX2_init 1 0 := ⟨⟨q168, q113, q169⟩, by decide +kernel, by decide, rfl⟩
set_option maxRecDepth 100000 in
theorem c_X2_init (l : Launch) (g : zG) (h : GH) (a : Nat) (hq : h a = some (zO 1 [vI 0, vI 0, vI 0, vI 0, .null, vI 0, vI 0, vI 0, vI 0, vI 0, vI 0, .null, .null, .null, .null, .null, .null])) : zMet l yX2_init cX2_init 1 none 4 7 20 [vR a] g h (fun v h' => v = none ∧ ∃ (sh : Sh) (rc : Nat), sh.1 = a ∧ rX g.2.2 h (fun x => x = a) sh (fI, rc, fun _ => []) h') := by
  refine zMet.mk (L0 := [some (vR a)]) (by decide) rfl (Nat.le_of_ble_eq_true rfl) rfl (fun C hg hl hnm X => ?_)
  subst hg hl
  have w0 : hF h (fun x => x = a) h := hF.rf
  refine z_aload_n (pc' := 1) X dX2_init_0 rfl rfl ?_
  refine z_objInit (pc' := 4) X q170 dX2_init_1 rfl (Nat.le_of_ble_eq_true rfl) ?_
  refine z_aload_n (pc' := 5) X dX2_init_4 rfl rfl ?_
  refine z_sipush (pc' := 8) X dX2_init_5 rfl (by decide) ?_
  refine z_put1 (pc' := 11) (kf := 1) X in_X2 tyX2 tyX2_ok nmX2 rfl (by decide) q214 (Or.inl rfl) rfl rfl rfl (Nat.le_of_ble_eq_true rfl) hq dX2_init_8 rfl (fun h1 e1 => ?_)
  have g1 := (congrFun e1 a).trans hset_s
  try dsimp only [List.set] at g1
  have w1 : hF h (fun x => x = a) h1 := by rw [e1]; exact w0.set (Or.inl rfl)
  refine z_aload_n (pc' := 12) X dX2_init_11 rfl rfl ?_
  refine z_bipush (pc' := 14) X dX2_init_12 rfl (by decide) ?_
  refine z_put1 (pc' := 17) (kf := 2) X in_X2 tyX2 tyX2_ok nmX2 rfl (by decide) q216 (Or.inl rfl) rfl rfl rfl (Nat.le_of_ble_eq_true rfl) g1 dX2_init_14 rfl (fun h2 e2 => ?_)
  have g2 := (congrFun e2 a).trans hset_s
  try dsimp only [List.set] at g2
  have w2 : hF h (fun x => x = a) h2 := by rw [e2]; exact w1.set (Or.inl rfl)
  refine z_aload_n (pc' := 18) X dX2_init_17 rfl rfl ?_
  refine z_new1 (pc' := 21) X (ci := 2) (fs := [vI 0, vI 0]) in_X3 tyX3 tyX3_ok q171 q172 q114 rfl df_X3 dX2_init_18 rfl (Nat.le_of_ble_eq_true rfl) (Nat.le_of_ble_eq_true rfl) (fun q3 h3 n3 e3 => ?_)
  have g3 := (congrFun e3 q3).trans hset_s
  have fa4 := (congrFun e3 _).trans (hset_f g2 n3)
  have w3 : hF h (fun x => x = a) h3 := by rw [e3]; exact w2.new n3
  refine z_dup (pc' := 22) X rfl dX2_init_21 rfl ?_
  refine z_iconst (pc' := 23) X dX2_init_22 rfl ?_
  refine z_iconst (pc' := 24) X dX2_init_23 rfl ?_
  refine z_callI1 (pc' := 27) X Y_X3_init q173 dX2_init_24 rfl (Nat.le_of_ble_eq_true rfl) (Nat.le_of_ble_eq_true rfl) (Nat.le_of_ble_eq_true rfl) rfl rfl (Nat.le_of_ble_eq_true rfl) (c_X3_init _ _ _ (q3) (0) (1) g3) (fun v5 h5 p5 => ?_)
  obtain ⟨ev5, p5⟩ := p5
  subst ev5
  dsimp only [zst]
  have e5 := p5.trans (by rw [e3, hset_hset])
  have g5 := (congrFun e5 q3).trans hset_s
  have fa6 := (congrFun e5 _).trans (hset_f g2 n3)
  have w5 : hF h (fun x => x = a) h5 := by rw [e5]; exact w2.new n3
  refine z_put1 (pc' := 30) (kf := 4) X in_X2 tyX2 tyX2_ok nmX2 rfl (by decide) q220 (Or.inl rfl) rfl rfl rfl (Nat.le_of_ble_eq_true rfl) fa6 dX2_init_27 rfl (fun h7 e7 => ?_)
  have g7 := (congrFun e7 a).trans hset_s
  try dsimp only [List.set] at g7
  have fa8 := (congrFun e7 _).trans (hset_oo g5 fa6 (by decide))
  have w7 : hF h (fun x => x = a) h7 := by rw [e7]; exact w5.set (Or.inl rfl)
  refine z_aload_n (pc' := 31) X dX2_init_30 rfl rfl ?_
  refine z_new1 (pc' := 34) X (ci := 13) (fs := [vI 0, Value.null, vI 0]) in_J2 tyJ2 tyJ2_ok q186 q187 q117 rfl df_J2 dX2_init_31 rfl (Nat.le_of_ble_eq_true rfl) (Nat.le_of_ble_eq_true rfl) (fun q9 h9 n9 e9 => ?_)
  have g9 := (congrFun e9 q9).trans hset_s
  have fa10 := (congrFun e9 _).trans (hset_f g7 n9)
  have fa11 := (congrFun e9 _).trans (hset_f fa8 n9)
  have w9 : hF h (fun x => x = a) h9 := by rw [e9]; exact w7.new n9
  refine z_dup (pc' := 35) X rfl dX2_init_34 rfl ?_
  refine z_callI1 (pc' := 38) X Y_J2_init q188 dX2_init_35 rfl (Nat.le_of_ble_eq_true rfl) (Nat.le_of_ble_eq_true rfl) (Nat.le_of_ble_eq_true rfl) rfl rfl (Nat.le_of_ble_eq_true rfl) (c_J2_init_x _ _ _ (q9) g9) (fun v12 h12 p12 => ?_)
  obtain ⟨ev12, p12⟩ := p12
  subst ev12
  dsimp only [zst]
  have e12 := p12.trans (by rw [e9, hset_hset])
  have g12 := (congrFun e12 q9).trans hset_s
  have fa13 := (congrFun e12 _).trans (hset_f g7 n9)
  have fa14 := (congrFun e12 _).trans (hset_f fa8 n9)
  have w12 : hF h (fun x => x = a) h12 := by rw [e12]; exact w7.new n9
  have y0 := w7.1 _ n9
  refine z_putF1 (pc' := 41) (kf := 11) X hnm in_X2 tyX2 tyX2_ok nmX2 rfl (by decide) q234 (Or.inl rfl) rfl rfl rfl rfl (Nat.le_of_ble_eq_true rfl) fa13 dX2_init_38 rfl (fun h15 e15 => ?_)
  have g15 := (congrFun e15 a).trans hset_s
  try dsimp only [List.set] at g15
  have fa16 := (congrFun e15 _).trans (hset_oo fa14 fa13 (by decide))
  have fa17 := (congrFun e15 _).trans (hset_oo g12 fa13 (by decide))
  have w15 : hF h (fun x => x = a) h15 := by rw [e15]; exact w12.set (Or.inl rfl)
  refine z_aload_n (pc' := 42) X dX2_init_41 rfl rfl ?_
  refine z_new1 (pc' := 45) X (ci := 13) (fs := [vI 0, Value.null, vI 0]) in_J2 tyJ2 tyJ2_ok q186 q187 q117 rfl df_J2 dX2_init_42 rfl (Nat.le_of_ble_eq_true rfl) (Nat.le_of_ble_eq_true rfl) (fun q18 h18 n18 e18 => ?_)
  have g18 := (congrFun e18 q18).trans hset_s
  have fa19 := (congrFun e18 _).trans (hset_f g15 n18)
  have fa20 := (congrFun e18 _).trans (hset_f fa16 n18)
  have fa21 := (congrFun e18 _).trans (hset_f fa17 n18)
  have w18 : hF h (fun x => x = a) h18 := by rw [e18]; exact w15.new n18
  refine z_dup (pc' := 46) X rfl dX2_init_45 rfl ?_
  refine z_callI1 (pc' := 49) X Y_J2_init q188 dX2_init_46 rfl (Nat.le_of_ble_eq_true rfl) (Nat.le_of_ble_eq_true rfl) (Nat.le_of_ble_eq_true rfl) rfl rfl (Nat.le_of_ble_eq_true rfl) (c_J2_init_x _ _ _ (q18) g18) (fun v22 h22 p22 => ?_)
  obtain ⟨ev22, p22⟩ := p22
  subst ev22
  dsimp only [zst]
  have e22 := p22.trans (by rw [e18, hset_hset])
  have g22 := (congrFun e22 q18).trans hset_s
  have fa23 := (congrFun e22 _).trans (hset_f g15 n18)
  have fa24 := (congrFun e22 _).trans (hset_f fa16 n18)
  have fa25 := (congrFun e22 _).trans (hset_f fa17 n18)
  have w22 : hF h (fun x => x = a) h22 := by rw [e22]; exact w15.new n18
  have d01 : q9 ≠ q18 := fun hh => by have t := fa17; rw [hh, n18] at t; cases t
  have y1 := w15.1 _ n18
  refine z_putF1 (pc' := 52) (kf := 12) X hnm in_X2 tyX2 tyX2_ok nmX2 rfl (by decide) q236 (Or.inl rfl) rfl rfl rfl rfl (Nat.le_of_ble_eq_true rfl) fa23 dX2_init_49 rfl (fun h26 e26 => ?_)
  have g26 := (congrFun e26 a).trans hset_s
  try dsimp only [List.set] at g26
  have fa27 := (congrFun e26 _).trans (hset_oo fa24 fa23 (by decide))
  have fa28 := (congrFun e26 _).trans (hset_oo fa25 fa23 (by decide))
  have fa29 := (congrFun e26 _).trans (hset_oo g22 fa23 (by decide))
  have w26 : hF h (fun x => x = a) h26 := by rw [e26]; exact w22.set (Or.inl rfl)
  refine z_aload_n (pc' := 53) X dX2_init_52 rfl rfl ?_
  refine z_new1 (pc' := 56) X (ci := 13) (fs := [vI 0, Value.null, vI 0]) in_J2 tyJ2 tyJ2_ok q186 q187 q117 rfl df_J2 dX2_init_53 rfl (Nat.le_of_ble_eq_true rfl) (Nat.le_of_ble_eq_true rfl) (fun q30 h30 n30 e30 => ?_)
  have g30 := (congrFun e30 q30).trans hset_s
  have fa31 := (congrFun e30 _).trans (hset_f g26 n30)
  have fa32 := (congrFun e30 _).trans (hset_f fa27 n30)
  have fa33 := (congrFun e30 _).trans (hset_f fa28 n30)
  have fa34 := (congrFun e30 _).trans (hset_f fa29 n30)
  have w30 : hF h (fun x => x = a) h30 := by rw [e30]; exact w26.new n30
  refine z_dup (pc' := 57) X rfl dX2_init_56 rfl ?_
  refine z_callI1 (pc' := 60) X Y_J2_init q188 dX2_init_57 rfl (Nat.le_of_ble_eq_true rfl) (Nat.le_of_ble_eq_true rfl) (Nat.le_of_ble_eq_true rfl) rfl rfl (Nat.le_of_ble_eq_true rfl) (c_J2_init_x _ _ _ (q30) g30) (fun v35 h35 p35 => ?_)
  obtain ⟨ev35, p35⟩ := p35
  subst ev35
  dsimp only [zst]
  have e35 := p35.trans (by rw [e30, hset_hset])
  have g35 := (congrFun e35 q30).trans hset_s
  have fa36 := (congrFun e35 _).trans (hset_f g26 n30)
  have fa37 := (congrFun e35 _).trans (hset_f fa27 n30)
  have fa38 := (congrFun e35 _).trans (hset_f fa28 n30)
  have fa39 := (congrFun e35 _).trans (hset_f fa29 n30)
  have w35 : hF h (fun x => x = a) h35 := by rw [e35]; exact w26.new n30
  have d02 : q9 ≠ q30 := fun hh => by have t := fa28; rw [hh, n30] at t; cases t
  have d12 : q18 ≠ q30 := fun hh => by have t := fa29; rw [hh, n30] at t; cases t
  have y2 := w26.1 _ n30
  refine z_putF1 (pc' := 63) (kf := 13) X hnm in_X2 tyX2 tyX2_ok nmX2 rfl (by decide) q238 (Or.inl rfl) rfl rfl rfl rfl (Nat.le_of_ble_eq_true rfl) fa36 dX2_init_60 rfl (fun h40 e40 => ?_)
  have g40 := (congrFun e40 a).trans hset_s
  try dsimp only [List.set] at g40
  have fa41 := (congrFun e40 _).trans (hset_oo fa37 fa36 (by decide))
  have fa42 := (congrFun e40 _).trans (hset_oo fa38 fa36 (by decide))
  have fa43 := (congrFun e40 _).trans (hset_oo fa39 fa36 (by decide))
  have fa44 := (congrFun e40 _).trans (hset_oo g35 fa36 (by decide))
  have w40 : hF h (fun x => x = a) h40 := by rw [e40]; exact w35.set (Or.inl rfl)
  refine z_aload_n (pc' := 64) X dX2_init_63 rfl rfl ?_
  refine z_new1 (pc' := 67) X (ci := 13) (fs := [vI 0, Value.null, vI 0]) in_J2 tyJ2 tyJ2_ok q186 q187 q117 rfl df_J2 dX2_init_64 rfl (Nat.le_of_ble_eq_true rfl) (Nat.le_of_ble_eq_true rfl) (fun q45 h45 n45 e45 => ?_)
  have g45 := (congrFun e45 q45).trans hset_s
  have fa46 := (congrFun e45 _).trans (hset_f g40 n45)
  have fa47 := (congrFun e45 _).trans (hset_f fa41 n45)
  have fa48 := (congrFun e45 _).trans (hset_f fa42 n45)
  have fa49 := (congrFun e45 _).trans (hset_f fa43 n45)
  have fa50 := (congrFun e45 _).trans (hset_f fa44 n45)
  have w45 : hF h (fun x => x = a) h45 := by rw [e45]; exact w40.new n45
  refine z_dup (pc' := 68) X rfl dX2_init_67 rfl ?_
  refine z_callI1 (pc' := 71) X Y_J2_init q188 dX2_init_68 rfl (Nat.le_of_ble_eq_true rfl) (Nat.le_of_ble_eq_true rfl) (Nat.le_of_ble_eq_true rfl) rfl rfl (Nat.le_of_ble_eq_true rfl) (c_J2_init_x _ _ _ (q45) g45) (fun v51 h51 p51 => ?_)
  obtain ⟨ev51, p51⟩ := p51
  subst ev51
  dsimp only [zst]
  have e51 := p51.trans (by rw [e45, hset_hset])
  have g51 := (congrFun e51 q45).trans hset_s
  have fa52 := (congrFun e51 _).trans (hset_f g40 n45)
  have fa53 := (congrFun e51 _).trans (hset_f fa41 n45)
  have fa54 := (congrFun e51 _).trans (hset_f fa42 n45)
  have fa55 := (congrFun e51 _).trans (hset_f fa43 n45)
  have fa56 := (congrFun e51 _).trans (hset_f fa44 n45)
  have w51 : hF h (fun x => x = a) h51 := by rw [e51]; exact w40.new n45
  have d03 : q9 ≠ q45 := fun hh => by have t := fa42; rw [hh, n45] at t; cases t
  have d13 : q18 ≠ q45 := fun hh => by have t := fa43; rw [hh, n45] at t; cases t
  have d23 : q30 ≠ q45 := fun hh => by have t := fa44; rw [hh, n45] at t; cases t
  have y3 := w40.1 _ n45
  refine z_putF1 (pc' := 74) (kf := 14) X hnm in_X2 tyX2 tyX2_ok nmX2 rfl (by decide) q240 (Or.inl rfl) rfl rfl rfl rfl (Nat.le_of_ble_eq_true rfl) fa52 dX2_init_71 rfl (fun h57 e57 => ?_)
  have g57 := (congrFun e57 a).trans hset_s
  try dsimp only [List.set] at g57
  have fa58 := (congrFun e57 _).trans (hset_oo fa53 fa52 (by decide))
  have fa59 := (congrFun e57 _).trans (hset_oo fa54 fa52 (by decide))
  have fa60 := (congrFun e57 _).trans (hset_oo fa55 fa52 (by decide))
  have fa61 := (congrFun e57 _).trans (hset_oo fa56 fa52 (by decide))
  have fa62 := (congrFun e57 _).trans (hset_oo g51 fa52 (by decide))
  have w57 : hF h (fun x => x = a) h57 := by rw [e57]; exact w51.set (Or.inl rfl)
  refine z_aload_n (pc' := 75) X dX2_init_74 rfl rfl ?_
  refine z_new1 (pc' := 78) X (ci := 13) (fs := [vI 0, Value.null, vI 0]) in_J2 tyJ2 tyJ2_ok q186 q187 q117 rfl df_J2 dX2_init_75 rfl (Nat.le_of_ble_eq_true rfl) (Nat.le_of_ble_eq_true rfl) (fun q63 h63 n63 e63 => ?_)
  have g63 := (congrFun e63 q63).trans hset_s
  have fa64 := (congrFun e63 _).trans (hset_f g57 n63)
  have fa65 := (congrFun e63 _).trans (hset_f fa58 n63)
  have fa66 := (congrFun e63 _).trans (hset_f fa59 n63)
  have fa67 := (congrFun e63 _).trans (hset_f fa60 n63)
  have fa68 := (congrFun e63 _).trans (hset_f fa61 n63)
  have fa69 := (congrFun e63 _).trans (hset_f fa62 n63)
  have w63 : hF h (fun x => x = a) h63 := by rw [e63]; exact w57.new n63
  refine z_dup (pc' := 79) X rfl dX2_init_78 rfl ?_
  refine z_callI1 (pc' := 82) X Y_J2_init q188 dX2_init_79 rfl (Nat.le_of_ble_eq_true rfl) (Nat.le_of_ble_eq_true rfl) (Nat.le_of_ble_eq_true rfl) rfl rfl (Nat.le_of_ble_eq_true rfl) (c_J2_init_x _ _ _ (q63) g63) (fun v70 h70 p70 => ?_)
  obtain ⟨ev70, p70⟩ := p70
  subst ev70
  dsimp only [zst]
  have e70 := p70.trans (by rw [e63, hset_hset])
  have g70 := (congrFun e70 q63).trans hset_s
  have fa71 := (congrFun e70 _).trans (hset_f g57 n63)
  have fa72 := (congrFun e70 _).trans (hset_f fa58 n63)
  have fa73 := (congrFun e70 _).trans (hset_f fa59 n63)
  have fa74 := (congrFun e70 _).trans (hset_f fa60 n63)
  have fa75 := (congrFun e70 _).trans (hset_f fa61 n63)
  have fa76 := (congrFun e70 _).trans (hset_f fa62 n63)
  have w70 : hF h (fun x => x = a) h70 := by rw [e70]; exact w57.new n63
  have d04 : q9 ≠ q63 := fun hh => by have t := fa59; rw [hh, n63] at t; cases t
  have d14 : q18 ≠ q63 := fun hh => by have t := fa60; rw [hh, n63] at t; cases t
  have d24 : q30 ≠ q63 := fun hh => by have t := fa61; rw [hh, n63] at t; cases t
  have d34 : q45 ≠ q63 := fun hh => by have t := fa62; rw [hh, n63] at t; cases t
  have y4 := w57.1 _ n63
  refine z_putF1 (pc' := 85) (kf := 15) X hnm in_X2 tyX2 tyX2_ok nmX2 rfl (by decide) q242 (Or.inl rfl) rfl rfl rfl rfl (Nat.le_of_ble_eq_true rfl) fa71 dX2_init_82 rfl (fun h77 e77 => ?_)
  have g77 := (congrFun e77 a).trans hset_s
  try dsimp only [List.set] at g77
  have fa78 := (congrFun e77 _).trans (hset_oo fa72 fa71 (by decide))
  have fa79 := (congrFun e77 _).trans (hset_oo fa73 fa71 (by decide))
  have fa80 := (congrFun e77 _).trans (hset_oo fa74 fa71 (by decide))
  have fa81 := (congrFun e77 _).trans (hset_oo fa75 fa71 (by decide))
  have fa82 := (congrFun e77 _).trans (hset_oo fa76 fa71 (by decide))
  have fa83 := (congrFun e77 _).trans (hset_oo g70 fa71 (by decide))
  have w77 : hF h (fun x => x = a) h77 := by rw [e77]; exact w70.set (Or.inl rfl)
  refine z_aload_n (pc' := 86) X dX2_init_85 rfl rfl ?_
  refine z_new1 (pc' := 89) X (ci := 13) (fs := [vI 0, Value.null, vI 0]) in_J2 tyJ2 tyJ2_ok q186 q187 q117 rfl df_J2 dX2_init_86 rfl (Nat.le_of_ble_eq_true rfl) (Nat.le_of_ble_eq_true rfl) (fun q84 h84 n84 e84 => ?_)
  have g84 := (congrFun e84 q84).trans hset_s
  have fa85 := (congrFun e84 _).trans (hset_f g77 n84)
  have fa86 := (congrFun e84 _).trans (hset_f fa78 n84)
  have fa87 := (congrFun e84 _).trans (hset_f fa79 n84)
  have fa88 := (congrFun e84 _).trans (hset_f fa80 n84)
  have fa89 := (congrFun e84 _).trans (hset_f fa81 n84)
  have fa90 := (congrFun e84 _).trans (hset_f fa82 n84)
  have fa91 := (congrFun e84 _).trans (hset_f fa83 n84)
  have w84 : hF h (fun x => x = a) h84 := by rw [e84]; exact w77.new n84
  refine z_dup (pc' := 90) X rfl dX2_init_89 rfl ?_
  refine z_callI1 (pc' := 93) X Y_J2_init q188 dX2_init_90 rfl (Nat.le_of_ble_eq_true rfl) (Nat.le_of_ble_eq_true rfl) (Nat.le_of_ble_eq_true rfl) rfl rfl (Nat.le_of_ble_eq_true rfl) (c_J2_init_x _ _ _ (q84) g84) (fun v92 h92 p92 => ?_)
  obtain ⟨ev92, p92⟩ := p92
  subst ev92
  dsimp only [zst]
  have e92 := p92.trans (by rw [e84, hset_hset])
  have g92 := (congrFun e92 q84).trans hset_s
  have fa93 := (congrFun e92 _).trans (hset_f g77 n84)
  have fa94 := (congrFun e92 _).trans (hset_f fa78 n84)
  have fa95 := (congrFun e92 _).trans (hset_f fa79 n84)
  have fa96 := (congrFun e92 _).trans (hset_f fa80 n84)
  have fa97 := (congrFun e92 _).trans (hset_f fa81 n84)
  have fa98 := (congrFun e92 _).trans (hset_f fa82 n84)
  have fa99 := (congrFun e92 _).trans (hset_f fa83 n84)
  have w92 : hF h (fun x => x = a) h92 := by rw [e92]; exact w77.new n84
  have d05 : q9 ≠ q84 := fun hh => by have t := fa79; rw [hh, n84] at t; cases t
  have d15 : q18 ≠ q84 := fun hh => by have t := fa80; rw [hh, n84] at t; cases t
  have d25 : q30 ≠ q84 := fun hh => by have t := fa81; rw [hh, n84] at t; cases t
  have d35 : q45 ≠ q84 := fun hh => by have t := fa82; rw [hh, n84] at t; cases t
  have d45 : q63 ≠ q84 := fun hh => by have t := fa83; rw [hh, n84] at t; cases t
  have y5 := w77.1 _ n84
  refine z_putF1 (pc' := 96) (kf := 16) X hnm in_X2 tyX2 tyX2_ok nmX2 rfl (by decide) q244 (Or.inl rfl) rfl rfl rfl rfl (Nat.le_of_ble_eq_true rfl) fa93 dX2_init_93 rfl (fun h100 e100 => ?_)
  have g100 := (congrFun e100 a).trans hset_s
  try dsimp only [List.set] at g100
  have fa101 := (congrFun e100 _).trans (hset_oo fa94 fa93 (by decide))
  have fa102 := (congrFun e100 _).trans (hset_oo fa95 fa93 (by decide))
  have fa103 := (congrFun e100 _).trans (hset_oo fa96 fa93 (by decide))
  have fa104 := (congrFun e100 _).trans (hset_oo fa97 fa93 (by decide))
  have fa105 := (congrFun e100 _).trans (hset_oo fa98 fa93 (by decide))
  have fa106 := (congrFun e100 _).trans (hset_oo fa99 fa93 (by decide))
  have fa107 := (congrFun e100 _).trans (hset_oo g92 fa93 (by decide))
  have w100 : hF h (fun x => x = a) h100 := by rw [e100]; exact w92.set (Or.inl rfl)
  refine z_ret1 X dX2_init_96 (Nat.le_of_ble_eq_true rfl) (Nat.le_of_ble_eq_true rfl) ?_
  refine ⟨rfl, (a, fun i => [q9, q18, q30, q45, q63, q84].getD i 0, fun _ => none), q3, rfl, rX.mk0 g100 fa101 fa102 fa103 fa104 fa105 fa106 fa107 (by simp only [List.nodup_cons, List.mem_cons, List.not_mem_nil, or_false, not_or, not_false_eq_true, List.nodup_nil, and_true]; exact ⟨⟨d01, d02, d03, d04, d05⟩, ⟨d12, d13, d14, d15⟩, ⟨d23, d24, d25⟩, ⟨d34, d35⟩, d45⟩) w100 (fun l hl => ?_)⟩
  simp only [List.mem_cons, List.not_mem_nil, or_false] at hl
  rcases hl with e | e | e | e | e | e
  · rw [e]; exact y0
  · rw [e]; exact y1
  · rw [e]; exact y2
  · rw [e]; exact y3
  · rw [e]; exact y4
  · rw [e]; exact y5
end ZSTATE
