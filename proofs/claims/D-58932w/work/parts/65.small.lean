/-! SMALL CLASSES: sizes, grades, rags, carters, bales, vats, moulds, piles, reams -/
section ZSMALL
theorem hset_hset {h : GH} {q : Nat} {e e' : zE} : hset (hset h q e) q e' = hset h q e' := by
  funext x
  unfold hset
  by_cases hx : x = q
  · rw [if_pos hx, if_pos hx]
  · rw [if_neg hx, if_neg hx, if_neg hx]
def szU (z : Int) : Int := if z = 0 then 1 else if z = 1 then 2 else 4
def szP (z : Int) : Int := if z = 0 then 90 else if z = 1 then 150 else 260
def grL (z : Int) : Int := if z = 0 then 60 else if z = 1 then 45 else 30
def grP (z p : Int) : Int := if z = 0 then p * 3 / 2 else if z = 1 then p else p / 2
theorem szU_b {z : Int} : 1 ≤ szU z ∧ szU z ≤ 4 := by
  unfold szU
  split
  · omega
  · split <;> omega
theorem szP_b {z : Int} : 90 ≤ szP z ∧ szP z ≤ 260 := by
  unfold szP
  split
  · omega
  · split <;> omega
theorem grP_b {z p : Int} (h : 0 ≤ p ∧ p ≤ 1000) : 0 ≤ grP z p ∧ grP z p ≤ 1500 := by
  unfold grP
  split
  · omega
  · split <;> omega
/-- the constants' addresses differ -/
theorem zX.binj {C : ZC} {cc : ByteArray} {own : String} {nL : Nat} {ret : Option FieldType} {d mc ms : Nat} {post : Option Value → GH → Prop} (X : zX C cc own nL ret d mc ms post) {i j : Nat} (hi : i < 6) (hj : j < 6) (h : (zg C).2.2 i = (zg C).2.2 j) : i = j := by
  obtain ⟨hx, hb, hml, hown, hts, hret, hlk, hK, hR, hQ⟩ := X
  exact hK.facts.2.2.2.2.1.2.2 i j hi hj h
set_option maxRecDepth 100000 in
theorem b_X20_units (l : Launch) (g : zG) (h : GH) (a : Nat) : zBod l "PaperMill$Size$1" cX20_units 1 (some .int) 1 0 0 [vR a] g h (fun v w => v = some (vI 1) ∧ w = h) := by
  intro C hg hl X
  show ZP C 1 (zAt h) 0 0 [some (vR a)] 0 []
  subst hg hl
  refine z_iconst (pc' := 1) X dX20_units_0 rfl ?_
  refine z_iret1 X dX20_units_1 (Nat.le_of_ble_eq_true rfl) (Nat.le_of_ble_eq_true rfl) ?_
  exact ⟨rfl, rfl⟩
set_option maxRecDepth 100000 in
theorem b_X21_units (l : Launch) (g : zG) (h : GH) (a : Nat) : zBod l "PaperMill$Size$2" cX21_units 1 (some .int) 1 0 0 [vR a] g h (fun v w => v = some (vI 2) ∧ w = h) := by
  intro C hg hl X
  show ZP C 1 (zAt h) 0 0 [some (vR a)] 0 []
  subst hg hl
  refine z_iconst (pc' := 1) X dX21_units_0 rfl ?_
  refine z_iret1 X dX21_units_1 (Nat.le_of_ble_eq_true rfl) (Nat.le_of_ble_eq_true rfl) ?_
  exact ⟨rfl, rfl⟩
set_option maxRecDepth 100000 in
theorem b_X22_units (l : Launch) (g : zG) (h : GH) (a : Nat) : zBod l "PaperMill$Size$3" cX22_units 1 (some .int) 1 0 0 [vR a] g h (fun v w => v = some (vI 4) ∧ w = h) := by
  intro C hg hl X
  show ZP C 1 (zAt h) 0 0 [some (vR a)] 0 []
  subst hg hl
  refine z_iconst (pc' := 1) X dX22_units_0 rfl ?_
  refine z_iret1 X dX22_units_1 (Nat.le_of_ble_eq_true rfl) (Nat.le_of_ble_eq_true rfl) ?_
  exact ⟨rfl, rfl⟩
set_option maxRecDepth 100000 in
theorem b_X20_price (l : Launch) (g : zG) (h : GH) (a : Nat) : zBod l "PaperMill$Size$1" cX20_price 1 (some .int) 1 0 0 [vR a] g h (fun v w => v = some (vI 90) ∧ w = h) := by
  intro C hg hl X
  show ZP C 1 (zAt h) 0 0 [some (vR a)] 0 []
  subst hg hl
  refine z_bipush (pc' := 2) X dX20_price_0 rfl (by decide) ?_
  refine z_iret1 X dX20_price_2 (Nat.le_of_ble_eq_true rfl) (Nat.le_of_ble_eq_true rfl) ?_
  exact ⟨rfl, rfl⟩
set_option maxRecDepth 100000 in
theorem b_X21_price (l : Launch) (g : zG) (h : GH) (a : Nat) : zBod l "PaperMill$Size$2" cX21_price 1 (some .int) 1 0 0 [vR a] g h (fun v w => v = some (vI 150) ∧ w = h) := by
  intro C hg hl X
  show ZP C 1 (zAt h) 0 0 [some (vR a)] 0 []
  subst hg hl
  refine z_sipush (pc' := 3) X dX21_price_0 rfl (by decide) ?_
  refine z_iret1 X dX21_price_3 (Nat.le_of_ble_eq_true rfl) (Nat.le_of_ble_eq_true rfl) ?_
  exact ⟨rfl, rfl⟩
set_option maxRecDepth 100000 in
theorem b_X22_price (l : Launch) (g : zG) (h : GH) (a : Nat) : zBod l "PaperMill$Size$3" cX22_price 1 (some .int) 1 0 0 [vR a] g h (fun v w => v = some (vI 260) ∧ w = h) := by
  intro C hg hl X
  show ZP C 1 (zAt h) 0 0 [some (vR a)] 0 []
  subst hg hl
  refine z_sipush (pc' := 3) X dX22_price_0 rfl (by decide) ?_
  refine z_iret1 X dX22_price_3 (Nat.le_of_ble_eq_true rfl) (Nat.le_of_ble_eq_true rfl) ?_
  exact ⟨rfl, rfl⟩
set_option maxRecDepth 100000 in
theorem b_X17_least (l : Launch) (g : zG) (h : GH) (a : Nat) : zBod l "PaperMill$Grade$1" cX17_least 1 (some .int) 1 0 0 [vR a] g h (fun v w => v = some (vI 60) ∧ w = h) := by
  intro C hg hl X
  show ZP C 1 (zAt h) 0 0 [some (vR a)] 0 []
  subst hg hl
  refine z_bipush (pc' := 2) X dX17_least_0 rfl (by decide) ?_
  refine z_iret1 X dX17_least_2 (Nat.le_of_ble_eq_true rfl) (Nat.le_of_ble_eq_true rfl) ?_
  exact ⟨rfl, rfl⟩
set_option maxRecDepth 100000 in
theorem b_X18_least (l : Launch) (g : zG) (h : GH) (a : Nat) : zBod l "PaperMill$Grade$2" cX18_least 1 (some .int) 1 0 0 [vR a] g h (fun v w => v = some (vI 45) ∧ w = h) := by
  intro C hg hl X
  show ZP C 1 (zAt h) 0 0 [some (vR a)] 0 []
  subst hg hl
  refine z_bipush (pc' := 2) X dX18_least_0 rfl (by decide) ?_
  refine z_iret1 X dX18_least_2 (Nat.le_of_ble_eq_true rfl) (Nat.le_of_ble_eq_true rfl) ?_
  exact ⟨rfl, rfl⟩
set_option maxRecDepth 100000 in
theorem b_X19_least (l : Launch) (g : zG) (h : GH) (a : Nat) : zBod l "PaperMill$Grade$3" cX19_least 1 (some .int) 1 0 0 [vR a] g h (fun v w => v = some (vI 30) ∧ w = h) := by
  intro C hg hl X
  show ZP C 1 (zAt h) 0 0 [some (vR a)] 0 []
  subst hg hl
  refine z_bipush (pc' := 2) X dX19_least_0 rfl (by decide) ?_
  refine z_iret1 X dX19_least_2 (Nat.le_of_ble_eq_true rfl) (Nat.le_of_ble_eq_true rfl) ?_
  exact ⟨rfl, rfl⟩
set_option maxRecDepth 100000 in
theorem b_X17_price (l : Launch) (g : zG) (h : GH) (a : Nat) (p : Int) (hp : 0 ≤ p ∧ p ≤ 1000) : zBod l "PaperMill$Grade$1" cX17_price 2 (some .int) 1 0 0 [vR a, vI p] g h (fun v w => v = some (vI (p * 3 / 2)) ∧ w = h) := by
  intro C hg hl X
  show ZP C 2 (zAt h) 0 0 [some (vR a), some (vI p)] 0 []
  subst hg hl
  refine z_iload_n (pc' := 1) X dX17_price_0 rfl rfl ?_
  refine z_iconst (pc' := 2) X dX17_price_1 rfl ?_
  refine z_imul (pc' := 3) X dX17_price_2 rfl ?_
  refine z_iconst (pc' := 4) X dX17_price_3 rfl ?_
  refine z_idivp (pc' := 5) X (by first | assumption | omega) (by decide) dX17_price_4 rfl ?_
  refine z_iret1 X dX17_price_5 (Nat.le_of_ble_eq_true rfl) (Nat.le_of_ble_eq_true rfl) ?_
  exact ⟨rfl, rfl⟩
set_option maxRecDepth 100000 in
theorem b_X18_price (l : Launch) (g : zG) (h : GH) (a : Nat) (p : Int) (hp : 0 ≤ p ∧ p ≤ 1000) : zBod l "PaperMill$Grade$2" cX18_price 2 (some .int) 1 0 0 [vR a, vI p] g h (fun v w => v = some (vI p) ∧ w = h) := by
  intro C hg hl X
  show ZP C 2 (zAt h) 0 0 [some (vR a), some (vI p)] 0 []
  subst hg hl
  refine z_iload_n (pc' := 1) X dX18_price_0 rfl rfl ?_
  refine z_iret1 X dX18_price_1 (Nat.le_of_ble_eq_true rfl) (Nat.le_of_ble_eq_true rfl) ?_
  exact ⟨rfl, rfl⟩
set_option maxRecDepth 100000 in
theorem b_X19_price (l : Launch) (g : zG) (h : GH) (a : Nat) (p : Int) (hp : 0 ≤ p ∧ p ≤ 1000) : zBod l "PaperMill$Grade$3" cX19_price 2 (some .int) 1 0 0 [vR a, vI p] g h (fun v w => v = some (vI (p / 2)) ∧ w = h) := by
  intro C hg hl X
  show ZP C 2 (zAt h) 0 0 [some (vR a), some (vI p)] 0 []
  subst hg hl
  refine z_iload_n (pc' := 1) X dX19_price_0 rfl rfl ?_
  refine z_iconst (pc' := 2) X dX19_price_1 rfl ?_
  refine z_idivp (pc' := 3) X (by first | assumption | omega) (by decide) dX19_price_2 rfl ?_
  refine z_iret1 X dX19_price_3 (Nat.le_of_ble_eq_true rfl) (Nat.le_of_ble_eq_true rfl) ?_
  exact ⟨rfl, rfl⟩
section
variable {C : ZC} {cc : ByteArray} {own : String} {nL : Nat} {ret : Option FieldType} {d mc ms : Nat} {post : Option Value → GH → Prop} {px : String → GH → Prop} {k n : Nat} {L : List (Option Value)} {pc pc' : Nat} {st : List Value} {h1 : GH}
theorem z_szunits (X : zX C cc own nL ret d mc ms post) {idx : Nat} {z : Int} (hq : Cond.methodLink own idx ⟨"PaperMill$Size", "units", "()I"⟩ ∈ lw_all) (hz : 0 ≤ z ∧ z ≤ 2) (hd : decode cc pc = .ok (.invokevirtual idx, 3)) (hn : pc + 3 = pc') (hdd : 2 ≤ d) (hkm : k ≤ mc) (hnm : n ≤ ms) (hcat : (st.map fun v => v.category).sum ≤ 8)
    (kk : ZP C nL (zAt h1) k n L pc' (vI (szU z) :: st)) : ZP C nL (zAt h1) k n L pc (vR ((zg C).2.2 z.toNat) :: st) := by
  have hz3 : z = 0 ∨ z = 1 ∨ z = 2 := by omega
  rcases hz3 with rfl | rfl | rfl
  · exact z_callE (N := 0) (v := some (vI (szU 0))) X hq q571 q570 q572 q573 q574 (by decide) (by decide +kernel) (by decide) (fun U hU => (hU.2.2.2.2.1.1 0 (by decide)).2) hd hn (show 1 + 1 ≤ d from hdd) hkm hnm (vs := []) rfl rfl hcat rfl (Nat.le_of_ble_eq_true rfl) (b_X20_units _ _ _ _) kk
  · exact z_callE (N := 0) (v := some (vI (szU 1))) X hq q571 q570 q575 q576 q577 (by decide) (by decide +kernel) (by decide) (fun U hU => (hU.2.2.2.2.1.1 1 (by decide)).2) hd hn (show 1 + 1 ≤ d from hdd) hkm hnm (vs := []) rfl rfl hcat rfl (Nat.le_of_ble_eq_true rfl) (b_X21_units _ _ _ _) kk
  · exact z_callE (N := 0) (v := some (vI (szU 2))) X hq q571 q570 q578 q579 q580 (by decide) (by decide +kernel) (by decide) (fun U hU => (hU.2.2.2.2.1.1 2 (by decide)).2) hd hn (show 1 + 1 ≤ d from hdd) hkm hnm (vs := []) rfl rfl hcat rfl (Nat.le_of_ble_eq_true rfl) (b_X22_units _ _ _ _) kk
theorem z_szprice (X : zX C cc own nL ret d mc ms post) {idx : Nat} {z : Int} (hq : Cond.methodLink own idx ⟨"PaperMill$Size", "price", "()I"⟩ ∈ lw_all) (hz : 0 ≤ z ∧ z ≤ 2) (hd : decode cc pc = .ok (.invokevirtual idx, 3)) (hn : pc + 3 = pc') (hdd : 2 ≤ d) (hkm : k ≤ mc) (hnm : n ≤ ms) (hcat : (st.map fun v => v.category).sum ≤ 8)
    (kk : ZP C nL (zAt h1) k n L pc' (vI (szP z) :: st)) : ZP C nL (zAt h1) k n L pc (vR ((zg C).2.2 z.toNat) :: st) := by
  have hz3 : z = 0 ∨ z = 1 ∨ z = 2 := by omega
  rcases hz3 with rfl | rfl | rfl
  · exact z_callE (N := 0) (v := some (vI (szP 0))) X hq q1725 q1724 q1726 q1727 q1728 (by decide) (by decide +kernel) (by decide) (fun U hU => (hU.2.2.2.2.1.1 0 (by decide)).2) hd hn (show 1 + 1 ≤ d from hdd) hkm hnm (vs := []) rfl rfl hcat rfl (Nat.le_of_ble_eq_true rfl) (b_X20_price _ _ _ _) kk
  · exact z_callE (N := 0) (v := some (vI (szP 1))) X hq q1725 q1724 q1729 q1730 q1731 (by decide) (by decide +kernel) (by decide) (fun U hU => (hU.2.2.2.2.1.1 1 (by decide)).2) hd hn (show 1 + 1 ≤ d from hdd) hkm hnm (vs := []) rfl rfl hcat rfl (Nat.le_of_ble_eq_true rfl) (b_X21_price _ _ _ _) kk
  · exact z_callE (N := 0) (v := some (vI (szP 2))) X hq q1725 q1724 q1732 q1733 q1734 (by decide) (by decide +kernel) (by decide) (fun U hU => (hU.2.2.2.2.1.1 2 (by decide)).2) hd hn (show 1 + 1 ≤ d from hdd) hkm hnm (vs := []) rfl rfl hcat rfl (Nat.le_of_ble_eq_true rfl) (b_X22_price _ _ _ _) kk
theorem z_grleast (X : zX C cc own nL ret d mc ms post) {idx : Nat} {z : Int} (hq : Cond.methodLink own idx ⟨"PaperMill$Grade", "least", "()I"⟩ ∈ lw_all) (hz : 0 ≤ z ∧ z ≤ 2) (hd : decode cc pc = .ok (.invokevirtual idx, 3)) (hn : pc + 3 = pc') (hdd : 2 ≤ d) (hkm : k ≤ mc) (hnm : n ≤ ms) (hcat : (st.map fun v => v.category).sum ≤ 8)
    (kk : ZP C nL (zAt h1) k n L pc' (vI (grL z) :: st)) : ZP C nL (zAt h1) k n L pc (vR ((zg C).2.2 (3 + z.toNat)) :: st) := by
  have hz3 : z = 0 ∨ z = 1 ∨ z = 2 := by omega
  rcases hz3 with rfl | rfl | rfl
  · exact z_callE (N := 0) (v := some (vI (grL 0))) X hq q1355 q1354 q1356 q1357 q1358 (by decide) (by decide +kernel) (by decide) (fun U hU => (hU.2.2.2.2.1.2.1 0 (by decide)).2) hd hn (show 1 + 1 ≤ d from hdd) hkm hnm (vs := []) rfl rfl hcat rfl (Nat.le_of_ble_eq_true rfl) (b_X17_least _ _ _ _) kk
  · exact z_callE (N := 0) (v := some (vI (grL 1))) X hq q1355 q1354 q1359 q1360 q1361 (by decide) (by decide +kernel) (by decide) (fun U hU => (hU.2.2.2.2.1.2.1 1 (by decide)).2) hd hn (show 1 + 1 ≤ d from hdd) hkm hnm (vs := []) rfl rfl hcat rfl (Nat.le_of_ble_eq_true rfl) (b_X18_least _ _ _ _) kk
  · exact z_callE (N := 0) (v := some (vI (grL 2))) X hq q1355 q1354 q1362 q1363 q1364 (by decide) (by decide +kernel) (by decide) (fun U hU => (hU.2.2.2.2.1.2.1 2 (by decide)).2) hd hn (show 1 + 1 ≤ d from hdd) hkm hnm (vs := []) rfl rfl hcat rfl (Nat.le_of_ble_eq_true rfl) (b_X19_least _ _ _ _) kk
theorem z_grprice (X : zX C cc own nL ret d mc ms post) {idx : Nat} {z p : Int} (hq : Cond.methodLink own idx ⟨"PaperMill$Grade", "price", "(I)I"⟩ ∈ lw_all) (hz : 0 ≤ z ∧ z ≤ 2) (hp : 0 ≤ p ∧ p ≤ 1000) (hd : decode cc pc = .ok (.invokevirtual idx, 3)) (hn : pc + 3 = pc') (hdd : 2 ≤ d) (hkm : k ≤ mc) (hnm : n ≤ ms) (hcat : (st.map fun v => v.category).sum ≤ 8)
    (kk : ZP C nL (zAt h1) k n L pc' (vI (grP z p) :: st)) : ZP C nL (zAt h1) k n L pc (vI p :: vR ((zg C).2.2 (3 + z.toNat)) :: st) := by
  have hz3 : z = 0 ∨ z = 1 ∨ z = 2 := by omega
  rcases hz3 with rfl | rfl | rfl
  · exact z_callE (N := 1) (v := some (vI (grP 0 p))) X hq q1737 q1736 q1738 q1739 q1740 (by decide) (by decide +kernel) (by decide) (fun U hU => (hU.2.2.2.2.1.2.1 0 (by decide)).2) hd hn (show 1 + 1 ≤ d from hdd) hkm hnm (vs := [vI p]) rfl rfl hcat rfl (Nat.le_of_ble_eq_true rfl) (b_X17_price _ _ _ _ p hp) kk
  · exact z_callE (N := 1) (v := some (vI (grP 1 p))) X hq q1737 q1736 q1741 q1742 q1743 (by decide) (by decide +kernel) (by decide) (fun U hU => (hU.2.2.2.2.1.2.1 1 (by decide)).2) hd hn (show 1 + 1 ≤ d from hdd) hkm hnm (vs := [vI p]) rfl rfl hcat rfl (Nat.le_of_ble_eq_true rfl) (b_X18_price _ _ _ _ p hp) kk
  · exact z_callE (N := 1) (v := some (vI (grP 2 p))) X hq q1737 q1736 q1744 q1745 q1746 (by decide) (by decide +kernel) (by decide) (fun U hU => (hU.2.2.2.2.1.2.1 2 (by decide)).2) hd hn (show 1 + 1 ≤ d from hdd) hkm hnm (vs := [vI p]) rfl rfl hcat rfl (Nat.le_of_ble_eq_true rfl) (b_X19_price _ _ _ _ p hp) kk
end
theorem Y_X7_of : zYS yX7_of cX7_of 1 (some (.object "PaperMill$Size")) 1 := ⟨⟨q405, q126, q406⟩, by decide +kernel, by decide⟩
set_option maxRecDepth 100000 in
theorem c_X7_of (l : Launch) (g : zG) (h : GH) (n : Int) (hn : 0 ≤ n ∧ n ≤ 2) : zPur l yX7_of cX7_of 1 (some (.object "PaperMill$Size")) 1 [vI n] g h (some (vR (g.2.2 n.toNat))) := by
  refine zMet.mk (L0 := [some (vI n)]) (by decide) rfl (Nat.le_of_ble_eq_true rfl) rfl (fun C hg hl hnm X => ?_)
  subst hg hl
  refine z_iload_n (pc' := 1) X dX7_of_0 rfl rfl ?_
  refine z_if_ne (tgt := 10) (pc' := 4) X (by first | assumption | omega) dX7_of_1 rfl (by decide) (fun c1 => ?_) (fun c1 => ?_)
  · refine z_iload_n (pc' := 11) X dX7_of_10 rfl rfl ?_
    refine z_iconst (pc' := 12) X dX7_of_11 rfl ?_
    refine z_icmp_ne (tgt := 21) (pc' := 15) X (by first | assumption | omega) (by first | assumption | omega) dX7_of_12 rfl (by decide) (fun c12 => ?_) (fun c12 => ?_)
    · refine z_gets (pc' := 24) X (fun U hU => (hU.2.2.2.2.1.1 2 (by decide)).1) q411 rfl dX7_of_21 rfl ?_
      refine z_aret1 X (Or.inl ⟨_, rfl⟩) dX7_of_24 (Nat.le_of_ble_eq_true rfl) (Nat.le_of_ble_eq_true rfl) ?_
      exact ⟨by rw [show n = 2 by omega]; rfl, rfl⟩
    · refine z_gets (pc' := 18) X (fun U hU => (hU.2.2.2.2.1.1 1 (by decide)).1) q409 rfl dX7_of_15 rfl ?_
      refine z_goto (tgt := 24) X dX7_of_18 (by decide) ?_
      refine z_aret1 X (Or.inl ⟨_, rfl⟩) dX7_of_24 (Nat.le_of_ble_eq_true rfl) (Nat.le_of_ble_eq_true rfl) ?_
      exact ⟨by rw [show n = 1 by omega]; rfl, rfl⟩
  · refine z_gets (pc' := 7) X (fun U hU => (hU.2.2.2.2.1.1 0 (by decide)).1) q407 rfl dX7_of_4 rfl ?_
    refine z_goto (tgt := 24) X dX7_of_7 (by decide) ?_
    refine z_aret1 X (Or.inl ⟨_, rfl⟩) dX7_of_24 (Nat.le_of_ble_eq_true rfl) (Nat.le_of_ble_eq_true rfl) ?_
    exact ⟨by rw [show n = 0 by omega]; rfl, rfl⟩
theorem Y_X11_of : zYS yX11_of cX11_of 1 (some (.object "PaperMill$Grade")) 1 := ⟨⟨q1662, q147, q1663⟩, by decide +kernel, by decide⟩
set_option maxRecDepth 100000 in
theorem c_X11_of (l : Launch) (g : zG) (h : GH) (n : Int) (hn : 0 ≤ n ∧ n ≤ 2) : zPur l yX11_of cX11_of 1 (some (.object "PaperMill$Grade")) 1 [vI n] g h (some (vR (g.2.2 (3 + n.toNat)))) := by
  refine zMet.mk (L0 := [some (vI n)]) (by decide) rfl (Nat.le_of_ble_eq_true rfl) rfl (fun C hg hl hnm X => ?_)
  subst hg hl
  refine z_iload_n (pc' := 1) X dX11_of_0 rfl rfl ?_
  refine z_if_ne (tgt := 10) (pc' := 4) X (by first | assumption | omega) dX11_of_1 rfl (by decide) (fun c1 => ?_) (fun c1 => ?_)
  · refine z_iload_n (pc' := 11) X dX11_of_10 rfl rfl ?_
    refine z_iconst (pc' := 12) X dX11_of_11 rfl ?_
    refine z_icmp_ne (tgt := 21) (pc' := 15) X (by first | assumption | omega) (by first | assumption | omega) dX11_of_12 rfl (by decide) (fun c12 => ?_) (fun c12 => ?_)
    · refine z_gets (pc' := 24) X (fun U hU => (hU.2.2.2.2.1.2.1 2 (by decide)).1) q1367 rfl dX11_of_21 rfl ?_
      refine z_aret1 X (Or.inl ⟨_, rfl⟩) dX11_of_24 (Nat.le_of_ble_eq_true rfl) (Nat.le_of_ble_eq_true rfl) ?_
      exact ⟨by rw [show n = 2 by omega]; rfl, rfl⟩
    · refine z_gets (pc' := 18) X (fun U hU => (hU.2.2.2.2.1.2.1 1 (by decide)).1) q1365 rfl dX11_of_15 rfl ?_
      refine z_goto (tgt := 24) X dX11_of_18 (by decide) ?_
      refine z_aret1 X (Or.inl ⟨_, rfl⟩) dX11_of_24 (Nat.le_of_ble_eq_true rfl) (Nat.le_of_ble_eq_true rfl) ?_
      exact ⟨by rw [show n = 1 by omega]; rfl, rfl⟩
  · refine z_gets (pc' := 7) X (fun U hU => (hU.2.2.2.2.1.2.1 0 (by decide)).1) q1351 rfl dX11_of_4 rfl ?_
    refine z_goto (tgt := 24) X dX11_of_7 (by decide) ?_
    refine z_aret1 X (Or.inl ⟨_, rfl⟩) dX11_of_24 (Nat.le_of_ble_eq_true rfl) (Nat.le_of_ble_eq_true rfl) ?_
    exact ⟨by rw [show n = 0 by omega]; rfl, rfl⟩
def grN (p : Int) : Int := if 60 ≤ p then 0 else if 45 ≤ p then 1 else if 30 ≤ p then 2 else -1
theorem grN_b {p : Int} (h : 30 ≤ p) : 0 ≤ grN p ∧ grN p ≤ 2 := by
  unfold grN
  split
  · omega
  · split
    · omega
    · first | omega | (rw [if_pos h]; omega)
theorem gL0 : grL 0 = 60 := rfl
theorem gL1 : grL 1 = 45 := rfl
theorem gL2 : grL 2 = 30 := rfl
theorem Y_X11_with : zYS yX11_with cX11_with 1 (some (.object "PaperMill$Grade")) 1 := ⟨⟨q1349, q147, q1350⟩, by decide +kernel, by decide⟩
set_option maxRecDepth 100000 in
theorem c_X11_with (l : Launch) (g : zG) (h : GH) (p : Int) (hp : 30 ≤ p ∧ p ≤ 1000) : zPur l yX11_with cX11_with 1 (some (.object "PaperMill$Grade")) 3 [vI p] g h (some (vR (g.2.2 (3 + (grN p).toNat)))) := by
  refine zMet.mk (L0 := [some (vI p)]) (by decide) rfl (Nat.le_of_ble_eq_true rfl) rfl (fun C hg hl hnm X => ?_)
  subst hg hl
  refine z_iload_n (pc' := 1) X dX11_with_0 rfl rfl ?_
  refine z_gets (pc' := 4) X (fun U hU => (hU.2.2.2.2.1.2.1 0 (by decide)).1) q1351 rfl dX11_with_1 rfl ?_
  refine z_grleast (z := 0) (pc' := 7) X q1353 (by decide) dX11_with_4 rfl (Nat.le_of_ble_eq_true rfl) (Nat.le_of_ble_eq_true rfl) (Nat.le_of_ble_eq_true rfl) (Nat.le_of_ble_eq_true rfl) ?_
  rw [gL0]
  refine z_icmp_lt (tgt := 14) (pc' := 10) X (by first | assumption | omega) (by first | assumption | omega) dX11_with_7 rfl (by decide) (fun c7 => ?_) (fun c7 => ?_)
  · refine z_iload_n (pc' := 15) X dX11_with_14 rfl rfl ?_
    refine z_gets (pc' := 18) X (fun U hU => (hU.2.2.2.2.1.2.1 1 (by decide)).1) q1365 rfl dX11_with_15 rfl ?_
    refine z_grleast (z := 1) (pc' := 21) X q1353 (by decide) dX11_with_18 rfl (Nat.le_of_ble_eq_true rfl) (Nat.le_of_ble_eq_true rfl) (Nat.le_of_ble_eq_true rfl) (Nat.le_of_ble_eq_true rfl) ?_
    rw [gL1]
    refine z_icmp_lt (tgt := 28) (pc' := 24) X (by first | assumption | omega) (by first | assumption | omega) dX11_with_21 rfl (by decide) (fun c21 => ?_) (fun c21 => ?_)
    · refine z_iload_n (pc' := 29) X dX11_with_28 rfl rfl ?_
      refine z_gets (pc' := 32) X (fun U hU => (hU.2.2.2.2.1.2.1 2 (by decide)).1) q1367 rfl dX11_with_29 rfl ?_
      refine z_grleast (z := 2) (pc' := 35) X q1353 (by decide) dX11_with_32 rfl (Nat.le_of_ble_eq_true rfl) (Nat.le_of_ble_eq_true rfl) (Nat.le_of_ble_eq_true rfl) (Nat.le_of_ble_eq_true rfl) ?_
      rw [gL2]
      refine z_icmp_lt (tgt := 44) (pc' := 38) X (by first | assumption | omega) (by first | assumption | omega) dX11_with_35 rfl (by decide) (fun c35 => ?_) (fun c35 => ?_)
      · exact absurd c35 (by omega)
      · refine z_gets (pc' := 41) X (fun U hU => (hU.2.2.2.2.1.2.1 2 (by decide)).1) q1367 rfl dX11_with_38 rfl ?_
        refine z_goto (tgt := 45) X dX11_with_41 (by decide) ?_
        refine z_aret1 X (Or.inl ⟨_, rfl⟩) dX11_with_45 (Nat.le_of_ble_eq_true rfl) (Nat.le_of_ble_eq_true rfl) ?_
        exact ⟨by unfold grN; rw [if_neg (by omega), if_neg (by omega), if_pos (by omega)]; rfl, rfl⟩
    · refine z_gets (pc' := 27) X (fun U hU => (hU.2.2.2.2.1.2.1 1 (by decide)).1) q1365 rfl dX11_with_24 rfl ?_
      refine z_aret1 X (Or.inl ⟨_, rfl⟩) dX11_with_27 (Nat.le_of_ble_eq_true rfl) (Nat.le_of_ble_eq_true rfl) ?_
      exact ⟨by unfold grN; rw [if_neg (by omega), if_pos (by omega)]; rfl, rfl⟩
  · refine z_gets (pc' := 13) X (fun U hU => (hU.2.2.2.2.1.2.1 0 (by decide)).1) q1351 rfl dX11_with_10 rfl ?_
    refine z_aret1 X (Or.inl ⟨_, rfl⟩) dX11_with_13 (Nat.le_of_ble_eq_true rfl) (Nat.le_of_ble_eq_true rfl) ?_
    exact ⟨by unfold grN; rw [if_pos (by omega)]; rfl, rfl⟩
set_option maxRecDepth 100000 in
theorem c_X11_with_n (l : Launch) (g : zG) (h : GH) (p : Int) (hp : -10000 ≤ p ∧ p < 30) : zPur l yX11_with cX11_with 1 (some (.object "PaperMill$Grade")) 3 [vI p] g h (some .null) := by
  refine zMet.mk (L0 := [some (vI p)]) (by decide) rfl (Nat.le_of_ble_eq_true rfl) rfl (fun C hg hl hnm X => ?_)
  subst hg hl
  refine z_iload_n (pc' := 1) X dX11_with_0 rfl rfl ?_
  refine z_gets (pc' := 4) X (fun U hU => (hU.2.2.2.2.1.2.1 0 (by decide)).1) q1351 rfl dX11_with_1 rfl ?_
  refine z_grleast (z := 0) (pc' := 7) X q1353 (by decide) dX11_with_4 rfl (Nat.le_of_ble_eq_true rfl) (Nat.le_of_ble_eq_true rfl) (Nat.le_of_ble_eq_true rfl) (Nat.le_of_ble_eq_true rfl) ?_
  rw [gL0]
  refine z_icmp_lt (tgt := 14) (pc' := 10) X (by first | assumption | omega) (by first | assumption | omega) dX11_with_7 rfl (by decide) (fun c7 => ?_) (fun c7 => ?_)
  · refine z_iload_n (pc' := 15) X dX11_with_14 rfl rfl ?_
    refine z_gets (pc' := 18) X (fun U hU => (hU.2.2.2.2.1.2.1 1 (by decide)).1) q1365 rfl dX11_with_15 rfl ?_
    refine z_grleast (z := 1) (pc' := 21) X q1353 (by decide) dX11_with_18 rfl (Nat.le_of_ble_eq_true rfl) (Nat.le_of_ble_eq_true rfl) (Nat.le_of_ble_eq_true rfl) (Nat.le_of_ble_eq_true rfl) ?_
    rw [gL1]
    refine z_icmp_lt (tgt := 28) (pc' := 24) X (by first | assumption | omega) (by first | assumption | omega) dX11_with_21 rfl (by decide) (fun c21 => ?_) (fun c21 => ?_)
    · refine z_iload_n (pc' := 29) X dX11_with_28 rfl rfl ?_
      refine z_gets (pc' := 32) X (fun U hU => (hU.2.2.2.2.1.2.1 2 (by decide)).1) q1367 rfl dX11_with_29 rfl ?_
      refine z_grleast (z := 2) (pc' := 35) X q1353 (by decide) dX11_with_32 rfl (Nat.le_of_ble_eq_true rfl) (Nat.le_of_ble_eq_true rfl) (Nat.le_of_ble_eq_true rfl) (Nat.le_of_ble_eq_true rfl) ?_
      rw [gL2]
      refine z_icmp_lt (tgt := 44) (pc' := 38) X (by first | assumption | omega) (by first | assumption | omega) dX11_with_35 rfl (by decide) (fun c35 => ?_) (fun c35 => ?_)
      · refine z_null (pc' := 45) X dX11_with_44 rfl ?_
        refine z_aretN1 X (Or.inl ⟨_, rfl⟩) dX11_with_45 (Nat.le_of_ble_eq_true rfl) (Nat.le_of_ble_eq_true rfl) ?_
        exact ⟨rfl, rfl⟩
      · exact absurd c35 (by omega)
    · exact absurd c21 (by omega)
  · exact absurd c7 (by omega)
theorem Y_X5_isEmpty : zYV yX5_isEmpty cX5_isEmpty 1 (some .boolean) 0 := ⟨⟨q1280, q1281, q123, q1282⟩, by decide +kernel, by decide⟩
set_option maxRecDepth 100000 in
theorem c_X5_isEmpty (l : Launch) (g : zG) (h : GH) (a : Nat) (u hr sg : Int) (hq : h a = some (zO 4 [vI u, vI hr, vI sg])) (hu : rng u) : zPur l yX5_isEmpty cX5_isEmpty 1 (some .boolean) 1 [vR a] g h (some (vI (bI (u = 0)))) := by
  refine zMet.mk (L0 := [some (vR a)]) (by decide) rfl (Nat.le_of_ble_eq_true rfl) rfl (fun C hg hl hnm X => ?_)
  subst hg hl
  refine z_aload_n (pc' := 1) X dX5_isEmpty_0 rfl rfl ?_
  refine z_get1 (pc' := 4) (kf := 0) X in_X5 rfl (by decide) q386 (Or.inl rfl) hq rfl dX5_isEmpty_1 rfl ?_
  refine z_if_ne (tgt := 11) (pc' := 7) X (by first | assumption | omega) dX5_isEmpty_4 rfl (by decide) (fun c4 => ?_) (fun c4 => ?_)
  · refine z_iconst (pc' := 12) X dX5_isEmpty_11 rfl ?_
    refine z_zret1 X dX5_isEmpty_12 (by first | exact nar_0 | exact nar_1 | exact nar_bI _ | exact nar_b (by omega)) (Nat.le_of_ble_eq_true rfl) (Nat.le_of_ble_eq_true rfl) ?_
    exact ⟨by rw [bI_f (by omega)], rfl⟩
  · refine z_iconst (pc' := 8) X dX5_isEmpty_7 rfl ?_
    refine z_goto (tgt := 12) X dX5_isEmpty_8 (by decide) ?_
    refine z_zret1 X dX5_isEmpty_12 (by first | exact nar_0 | exact nar_1 | exact nar_bI _ | exact nar_b (by omega)) (Nat.le_of_ble_eq_true rfl) (Nat.le_of_ble_eq_true rfl) ?_
    exact ⟨by rw [bI_t (by omega)], rfl⟩
theorem Y_X5_fineness : zYV yX5_fineness cX5_fineness 1 (some .int) 0 := ⟨⟨q1345, q1346, q123, q1347⟩, by decide +kernel, by decide⟩
set_option maxRecDepth 100000 in
theorem c_X5_fineness (l : Launch) (g : zG) (h : GH) (a : Nat) (u hr sg : Int) (hq : h a = some (zO 4 [vI u, vI hr, vI sg])) (hh : 0 ≤ hr ∧ hr ≤ 48) : zPur l yX5_fineness cX5_fineness 1 (some .int) 1 [vR a] g h (some (vI (if hr ≤ 24 then hr else 48 - hr))) := by
  refine zMet.mk (L0 := [some (vR a)]) (by decide) rfl (Nat.le_of_ble_eq_true rfl) rfl (fun C hg hl hnm X => ?_)
  subst hg hl
  refine z_aload_n (pc' := 1) X dX5_fineness_0 rfl rfl ?_
  refine z_get1 (pc' := 4) (kf := 1) X in_X5 rfl (by decide) q389 (Or.inl rfl) hq rfl dX5_fineness_1 rfl ?_
  refine z_bipush (pc' := 6) X dX5_fineness_4 rfl (by decide) ?_
  refine z_icmp_gt (tgt := 16) (pc' := 9) X (by first | assumption | omega) (by first | assumption | omega) dX5_fineness_6 rfl (by decide) (fun c6 => ?_) (fun c6 => ?_)
  · refine z_bipush (pc' := 18) X dX5_fineness_16 rfl (by decide) ?_
    refine z_aload_n (pc' := 19) X dX5_fineness_18 rfl rfl ?_
    refine z_get1 (pc' := 22) (kf := 1) X in_X5 rfl (by decide) q389 (Or.inl rfl) hq rfl dX5_fineness_19 rfl ?_
    refine z_isub (pc' := 23) X dX5_fineness_22 rfl ?_
    refine z_iret1 X dX5_fineness_23 (Nat.le_of_ble_eq_true rfl) (Nat.le_of_ble_eq_true rfl) ?_
    exact ⟨by rw [if_neg (by omega)], rfl⟩
  · refine z_aload_n (pc' := 10) X dX5_fineness_9 rfl rfl ?_
    refine z_get1 (pc' := 13) (kf := 1) X in_X5 rfl (by decide) q389 (Or.inl rfl) hq rfl dX5_fineness_10 rfl ?_
    refine z_goto (tgt := 23) X dX5_fineness_13 (by decide) ?_
    refine z_iret1 X dX5_fineness_23 (Nat.le_of_ble_eq_true rfl) (Nat.le_of_ble_eq_true rfl) ?_
    exact ⟨by rw [if_pos (by omega)], rfl⟩
theorem Y_X5_use : zYV yX5_use cX5_use 2 none 1 := ⟨⟨q1374, q1375, q123, q1376⟩, by decide +kernel, by decide⟩
set_option maxRecDepth 100000 in
theorem c_X5_use (l : Launch) (g : zG) (h : GH) (a : Nat) (u hr sg : Int) (hq : h a = some (zO 4 [vI u, vI hr, vI sg])) (x : Int) (hu : rng (u - x)) : zMet l yX5_use cX5_use 2 none 1 0 0 [vR a, vI x] g h (fun v h' => v = none ∧ h' = hset h a (zO 4 [vI (u - x), vI (if u - x = 0 then 0 else hr), vI (if u - x = 0 then 0 else sg)])) := by
  refine zMet.mk (L0 := [some (vR a), some (vI x)]) (by decide) rfl (Nat.le_of_ble_eq_true rfl) rfl (fun C hg hl hnm X => ?_)
  subst hg hl
  refine z_aload_n (pc' := 1) X dX5_use_0 rfl rfl ?_
  refine z_dup (pc' := 2) X rfl dX5_use_1 rfl ?_
  refine z_get1 (pc' := 5) (kf := 0) X in_X5 rfl (by decide) q386 (Or.inl rfl) hq rfl dX5_use_2 rfl ?_
  refine z_iload_n (pc' := 6) X dX5_use_5 rfl rfl ?_
  refine z_isub (pc' := 7) X dX5_use_6 rfl ?_
  refine z_put1 (pc' := 10) (kf := 0) X in_X5 tyX5 tyX5_ok nmX5 rfl (by decide) q386 (Or.inl rfl) rfl rfl rfl (Nat.le_of_ble_eq_true rfl) hq dX5_use_7 rfl (fun h1 e1 => ?_)
  have g1 := (congrFun e1 a).trans hset_s
  try dsimp only [List.set] at g1
  refine z_aload_n (pc' := 11) X dX5_use_10 rfl rfl ?_
  refine z_get1 (pc' := 14) (kf := 0) X in_X5 rfl (by decide) q386 (Or.inl rfl) g1 rfl dX5_use_11 rfl ?_
  refine z_if_ne (tgt := 27) (pc' := 17) X (by first | assumption | omega) dX5_use_14 rfl (by decide) (fun c14 => ?_) (fun c14 => ?_)
  · refine z_ret1 X dX5_use_27 (Nat.le_of_ble_eq_true rfl) (Nat.le_of_ble_eq_true rfl) ?_
    refine ⟨rfl, ?_⟩
    rw [if_neg c14, if_neg c14, e1]
    rfl
  · refine z_aload_n (pc' := 18) X dX5_use_17 rfl rfl ?_
    refine z_iconst (pc' := 19) X dX5_use_18 rfl ?_
    refine z_put1 (pc' := 22) (kf := 1) X in_X5 tyX5 tyX5_ok nmX5 rfl (by decide) q389 (Or.inl rfl) rfl rfl rfl (Nat.le_of_ble_eq_true rfl) g1 dX5_use_19 rfl (fun h2 e2 => ?_)
    have g2 := (congrFun e2 a).trans hset_s
    try dsimp only [List.set] at g2
    refine z_aload_n (pc' := 23) X dX5_use_22 rfl rfl ?_
    refine z_iconst (pc' := 24) X dX5_use_23 rfl ?_
    refine z_put1 (pc' := 27) (kf := 2) X in_X5 tyX5 tyX5_ok nmX5 rfl (by decide) q392 (Or.inl rfl) rfl rfl rfl (Nat.le_of_ble_eq_true rfl) g2 dX5_use_24 rfl (fun h3 e3 => ?_)
    have g3 := (congrFun e3 a).trans hset_s
    try dsimp only [List.set] at g3
    refine z_ret1 X dX5_use_27 (Nat.le_of_ble_eq_true rfl) (Nat.le_of_ble_eq_true rfl) ?_
    refine ⟨rfl, ?_⟩
    rw [if_pos c14, if_pos c14, e3, e2, e1, hset_hset, hset_hset]
    rfl
theorem Y_X6_spoil : zYV yX6_spoil cX6_spoil 4 (some .int) 2 := ⟨⟨q1370, q1371, q124, q1372⟩, by decide +kernel, by decide⟩
set_option maxRecDepth 100000 in
theorem c_X6_spoil (l : Launch) (g : zG) (h : GH) (a z : Nat) (mk wr rs : Int) (hq : h a = some (zO 5 [vR z, vI mk, vI wr, vI rs])) (s t : Int) (hs : 0 ≤ s * t + rs ∧ s * t + rs ≤ 2147483647) : zMet l yX6_spoil cX6_spoil 4 (some .int) 1 0 0 [vR a, vI s, vI t] g h (fun v h' => v = some (vI ((s * t + rs) / 100)) ∧ h' = hset h a (zO 5 [vR z, vI mk, vI wr, vI ((s * t + rs) % 100)])) := by
  refine zMet.mk (L0 := [some (vR a), some (vI s), some (vI t), none]) (by decide) rfl (Nat.le_of_ble_eq_true rfl) rfl (fun C hg hl hnm X => ?_)
  subst hg hl
  refine z_iload_n (pc' := 1) X dX6_spoil_0 rfl rfl ?_
  refine z_iload_n (pc' := 2) X dX6_spoil_1 rfl rfl ?_
  refine z_imul (pc' := 3) X dX6_spoil_2 rfl ?_
  refine z_aload_n (pc' := 4) X dX6_spoil_3 rfl rfl ?_
  refine z_get1 (pc' := 7) (kf := 3) X in_X6 rfl (by decide) q425 (Or.inl rfl) hq rfl dX6_spoil_4 rfl ?_
  refine z_iadd (pc' := 8) X dX6_spoil_7 rfl ?_
  refine z_istore_n (pc' := 9) X dX6_spoil_8 rfl (by decide) rfl ?_
  dsimp only [List.set]
  refine z_aload_n (pc' := 10) X dX6_spoil_9 rfl rfl ?_
  refine z_iload_n (pc' := 11) X dX6_spoil_10 rfl rfl ?_
  refine z_bipush (pc' := 13) X dX6_spoil_11 rfl (by decide) ?_
  refine z_iremp (pc' := 14) X (by first | assumption | omega) (by decide) dX6_spoil_13 rfl ?_
  refine z_put1 (pc' := 17) (kf := 3) X in_X6 tyX6 tyX6_ok nmX6 rfl (by decide) q425 (Or.inl rfl) rfl rfl rfl (Nat.le_of_ble_eq_true rfl) hq dX6_spoil_14 rfl (fun h1 e1 => ?_)
  have g1 := (congrFun e1 a).trans hset_s
  try dsimp only [List.set] at g1
  refine z_iload_n (pc' := 18) X dX6_spoil_17 rfl rfl ?_
  refine z_bipush (pc' := 20) X dX6_spoil_18 rfl (by decide) ?_
  refine z_idivp (pc' := 21) X (by first | assumption | omega) (by decide) dX6_spoil_20 rfl ?_
  refine z_iret1 X dX6_spoil_21 (Nat.le_of_ble_eq_true rfl) (Nat.le_of_ble_eq_true rfl) ?_
  exact ⟨rfl, e1⟩
theorem Y_X9_catchesMould : zYV yX9_catchesMould cX9_catchesMould 1 (some .boolean) 0 := ⟨⟨q725, q726, q142, q727⟩, by decide +kernel, by decide⟩
set_option maxRecDepth 100000 in
theorem c_X9_catchesMould (l : Launch) (g : zG) (h : GH) (a : Nat) (s r dm w m : Int) (hq : h a = some (zO 7 [vI s, vI r, vI dm, vI w, vI m])) (hm : rng m) (hd : rng dm) : zPur l yX9_catchesMould cX9_catchesMould 1 (some .boolean) 1 [vR a] g h (some (vI (bI (m = 0 ∧ 20 ≤ dm)))) := by
  refine zMet.mk (L0 := [some (vR a)]) (by decide) rfl (Nat.le_of_ble_eq_true rfl) rfl (fun C hg hl hnm X => ?_)
  subst hg hl
  refine z_aload_n (pc' := 1) X dX9_catchesMould_0 rfl rfl ?_
  refine z_get1 (pc' := 4) (kf := 4) X in_X9 rfl (by decide) q647 (Or.inl rfl) hq rfl dX9_catchesMould_1 rfl ?_
  refine z_if_ne (tgt := 20) (pc' := 7) X (by first | assumption | omega) dX9_catchesMould_4 rfl (by decide) (fun c4 => ?_) (fun c4 => ?_)
  · refine z_iconst (pc' := 21) X dX9_catchesMould_20 rfl ?_
    refine z_zret1 X dX9_catchesMould_21 (by first | exact nar_0 | exact nar_1 | exact nar_bI _ | exact nar_b (by omega)) (Nat.le_of_ble_eq_true rfl) (Nat.le_of_ble_eq_true rfl) ?_
    exact ⟨by rw [bI_f (fun hh => by omega)], rfl⟩
  · refine z_aload_n (pc' := 8) X dX9_catchesMould_7 rfl rfl ?_
    refine z_get1 (pc' := 11) (kf := 2) X in_X9 rfl (by decide) q641 (Or.inl rfl) hq rfl dX9_catchesMould_8 rfl ?_
    refine z_bipush (pc' := 13) X dX9_catchesMould_11 rfl (by decide) ?_
    refine z_icmp_lt (tgt := 20) (pc' := 16) X (by first | assumption | omega) (by first | assumption | omega) dX9_catchesMould_13 rfl (by decide) (fun c13 => ?_) (fun c13 => ?_)
    · refine z_iconst (pc' := 21) X dX9_catchesMould_20 rfl ?_
      refine z_zret1 X dX9_catchesMould_21 (by first | exact nar_0 | exact nar_1 | exact nar_bI _ | exact nar_b (by omega)) (Nat.le_of_ble_eq_true rfl) (Nat.le_of_ble_eq_true rfl) ?_
      exact ⟨by rw [bI_f (fun hh => by omega)], rfl⟩
    · refine z_iconst (pc' := 17) X dX9_catchesMould_16 rfl ?_
      refine z_goto (tgt := 21) X dX9_catchesMould_17 (by decide) ?_
      refine z_zret1 X dX9_catchesMould_21 (by first | exact nar_0 | exact nar_1 | exact nar_bI _ | exact nar_b (by omega)) (Nat.le_of_ble_eq_true rfl) (Nat.le_of_ble_eq_true rfl) ?_
      exact ⟨by rw [bI_t ⟨c4, c13⟩], rfl⟩
theorem Y_X10_isDryOf : zYV yX10_isDryOf cX10_isDryOf 4 (some .boolean) 3 := ⟨⟨q1669, q1670, q143, q1671⟩, by decide +kernel, by decide⟩
set_option maxRecDepth 100000 in
theorem c_X10_isDryOf (l : Launch) (g : zG) (h : GH) (a : Nat) (mk z r sh dy mk2 z2 r2 : Int) (hq : h a = some (zO 8 [vI mk, vR (g.2.2 z.toNat), vR (g.2.2 (3 + r.toNat)), vI sh, vI dy])) (h1 : rng mk ∧ rng mk2 ∧ rng dy) (h2 : (0 ≤ z ∧ z ≤ 2) ∧ (0 ≤ z2 ∧ z2 ≤ 2) ∧ (0 ≤ r ∧ r ≤ 2) ∧ (0 ≤ r2 ∧ r2 ≤ 2)) : zPur l yX10_isDryOf cX10_isDryOf 4 (some .boolean) 1 [vR a, vI mk2, vR (g.2.2 z2.toNat), vR (g.2.2 (3 + r2.toNat))] g h (some (vI (bI (3 ≤ dy ∧ mk = mk2 ∧ z = z2 ∧ r = r2)))) := by
  refine zMet.mk (L0 := [some (vR a), some (vI mk2), some (vR (g.2.2 z2.toNat)), some (vR (g.2.2 (3 + r2.toNat)))]) (by decide) rfl (Nat.le_of_ble_eq_true rfl) rfl (fun C hg hl hnm X => ?_)
  subst hg hl
  refine z_aload_n (pc' := 1) X dX10_isDryOf_0 rfl rfl ?_
  refine z_get1 (pc' := 4) (kf := 4) X in_X10 rfl (by decide) q691 (Or.inl rfl) hq rfl dX10_isDryOf_1 rfl ?_
  refine z_iconst (pc' := 5) X dX10_isDryOf_4 rfl ?_
  refine z_icmp_lt (tgt := 36) (pc' := 8) X (by first | assumption | (unfold rng; omega) | exact h1.1 | exact h1.2.1 | exact h1.2.2) (by first | assumption | (unfold rng; omega) | exact h1.1 | exact h1.2.1 | exact h1.2.2) dX10_isDryOf_5 rfl (by decide) (fun c5 => ?_) (fun c5 => ?_)
  · refine z_iconst (pc' := 37) X dX10_isDryOf_36 rfl ?_
    refine z_zret1 X dX10_isDryOf_37 (by first | exact nar_0 | exact nar_1 | exact nar_bI _ | exact nar_b (by omega)) (Nat.le_of_ble_eq_true rfl) (Nat.le_of_ble_eq_true rfl) ?_
    exact ⟨by rw [bI_f (fun hh => by omega)], rfl⟩
  · refine z_aload_n (pc' := 9) X dX10_isDryOf_8 rfl rfl ?_
    refine z_get1 (pc' := 12) (kf := 0) X in_X10 rfl (by decide) q683 (Or.inl rfl) hq rfl dX10_isDryOf_9 rfl ?_
    refine z_iload_n (pc' := 13) X dX10_isDryOf_12 rfl rfl ?_
    refine z_icmp_ne (tgt := 36) (pc' := 16) X (by first | assumption | (unfold rng; omega) | exact h1.1 | exact h1.2.1 | exact h1.2.2) (by first | assumption | (unfold rng; omega) | exact h1.1 | exact h1.2.1 | exact h1.2.2) dX10_isDryOf_13 rfl (by decide) (fun c13 => ?_) (fun c13 => ?_)
    · refine z_iconst (pc' := 37) X dX10_isDryOf_36 rfl ?_
      refine z_zret1 X dX10_isDryOf_37 (by first | exact nar_0 | exact nar_1 | exact nar_bI _ | exact nar_b (by omega)) (Nat.le_of_ble_eq_true rfl) (Nat.le_of_ble_eq_true rfl) ?_
      exact ⟨by rw [bI_f (fun hh => by omega)], rfl⟩
    · refine z_aload_n (pc' := 17) X dX10_isDryOf_16 rfl rfl ?_
      refine z_get1 (pc' := 20) (kf := 1) X in_X10 rfl (by decide) q684 (Or.inl rfl) hq rfl dX10_isDryOf_17 rfl ?_
      refine z_aload_n (pc' := 21) X dX10_isDryOf_20 rfl rfl ?_
      refine z_acmp_ne (rx := (some ((zg C).2.2 (z).toNat))) (ry := (some ((zg C).2.2 (z2).toNat))) (tgt := 36) (pc' := 24) X dX10_isDryOf_21 rfl (by decide) (fun c21 => ?_) (fun c21 => ?_)
      · refine z_iconst (pc' := 37) X dX10_isDryOf_36 rfl ?_
        refine z_zret1 X dX10_isDryOf_37 (by first | exact nar_0 | exact nar_1 | exact nar_bI _ | exact nar_b (by omega)) (Nat.le_of_ble_eq_true rfl) (Nat.le_of_ble_eq_true rfl) ?_
        exact ⟨by rw [bI_f (fun hh => c21 (by rw [hh.2.2.1]))], rfl⟩
      · refine z_aload_n (pc' := 25) X dX10_isDryOf_24 rfl rfl ?_
        refine z_get1 (pc' := 28) (kf := 2) X in_X10 rfl (by decide) q686 (Or.inl rfl) hq rfl dX10_isDryOf_25 rfl ?_
        refine z_aload_n (pc' := 29) X dX10_isDryOf_28 rfl rfl ?_
        refine z_acmp_ne (rx := (some ((zg C).2.2 (3 + (r).toNat)))) (ry := (some ((zg C).2.2 (3 + (r2).toNat)))) (tgt := 36) (pc' := 32) X dX10_isDryOf_29 rfl (by decide) (fun c29 => ?_) (fun c29 => ?_)
        · refine z_iconst (pc' := 37) X dX10_isDryOf_36 rfl ?_
          refine z_zret1 X dX10_isDryOf_37 (by first | exact nar_0 | exact nar_1 | exact nar_bI _ | exact nar_b (by omega)) (Nat.le_of_ble_eq_true rfl) (Nat.le_of_ble_eq_true rfl) ?_
          exact ⟨by rw [bI_f (fun hh => c29 (by rw [hh.2.2.2]))], rfl⟩
        · refine z_iconst (pc' := 33) X dX10_isDryOf_32 rfl ?_
          refine z_goto (tgt := 37) X dX10_isDryOf_33 (by decide) ?_
          refine z_zret1 X dX10_isDryOf_37 (by first | exact nar_0 | exact nar_1 | exact nar_bI _ | exact nar_b (by omega)) (Nat.le_of_ble_eq_true rfl) (Nat.le_of_ble_eq_true rfl) ?_
          have i1 := X.binj (i := z.toNat) (j := z2.toNat) (by omega) (by omega) (Option.some.inj c21)
          have i2 := X.binj (i := 3 + r.toNat) (j := 3 + r2.toNat) (by omega) (by omega) (Option.some.inj c29)
          exact ⟨by rw [bI_t ⟨c5, c13, by omega, by omega⟩], rfl⟩
theorem Y_X12_units : zYV yX12_units cX12_units 1 (some .int) 0 := ⟨⟨q583, q584, q148, q585⟩, by decide +kernel, by decide⟩
set_option maxRecDepth 100000 in
theorem c_X12_units (l : Launch) (g : zG) (h : GH) (a : Nat) (z r qu : Int) (hq : h a = some (zO 9 [vR (g.2.2 z.toNat), vR (g.2.2 (3 + r.toNat)), vI qu])) (hz : 0 ≤ z ∧ z ≤ 2) (hr : 0 ≤ r ∧ r ≤ 2) (hu : 0 ≤ qu ∧ qu ≤ 100) : zPur l yX12_units cX12_units 1 (some .int) 3 [vR a] g h (some (vI (24 * qu * szU z))) := by
  refine zMet.mk (L0 := [some (vR a)]) (by decide) rfl (Nat.le_of_ble_eq_true rfl) rfl (fun C hg hl hnm X => ?_)
  subst hg hl
  refine z_bipush (pc' := 2) X dX12_units_0 rfl (by decide) ?_
  refine z_aload_n (pc' := 3) X dX12_units_2 rfl rfl ?_
  refine z_get1 (pc' := 6) (kf := 2) X in_X12 rfl (by decide) q1687 (Or.inl rfl) hq rfl dX12_units_3 rfl ?_
  refine z_imul (pc' := 7) X dX12_units_6 rfl ?_
  refine z_aload_n (pc' := 8) X dX12_units_7 rfl rfl ?_
  refine z_get1 (pc' := 11) (kf := 0) X in_X12 rfl (by decide) q1685 (Or.inl rfl) hq rfl dX12_units_8 rfl ?_
  refine z_szunits (z := z) (pc' := 14) X q586 (by first | assumption | omega) dX12_units_11 rfl (Nat.le_of_ble_eq_true rfl) (Nat.le_of_ble_eq_true rfl) (Nat.le_of_ble_eq_true rfl) (Nat.le_of_ble_eq_true rfl) ?_
  refine z_imul (pc' := 15) X dX12_units_14 rfl ?_
  refine z_iret1 X dX12_units_15 (Nat.le_of_ble_eq_true rfl) (Nat.le_of_ble_eq_true rfl) ?_
  exact ⟨rfl, rfl⟩
theorem Y_X12_price : zYV yX12_price cX12_price 1 (some .int) 0 := ⟨⟨q1720, q1721, q148, q1722⟩, by decide +kernel, by decide⟩
set_option maxRecDepth 100000 in
theorem c_X12_price (l : Launch) (g : zG) (h : GH) (a : Nat) (z r qu : Int) (hq : h a = some (zO 9 [vR (g.2.2 z.toNat), vR (g.2.2 (3 + r.toNat)), vI qu])) (hz : 0 ≤ z ∧ z ≤ 2) (hr : 0 ≤ r ∧ r ≤ 2) (hu : 0 ≤ qu ∧ qu ≤ 100) : zPur l yX12_price cX12_price 1 (some .int) 3 [vR a] g h (some (vI (grP r (szP z) * qu / 20))) := by
  refine zMet.mk (L0 := [some (vR a)]) (by decide) rfl (Nat.le_of_ble_eq_true rfl) rfl (fun C hg hl hnm X => ?_)
  subst hg hl
  have b1 := szP_b (z := z)
  have b2 := grP_b (z := r) (p := szP z) (by omega)
  have b3 : 0 ≤ grP r (szP z) * qu := Int.mul_nonneg (by omega) (by omega)
  have b4 : grP r (szP z) * qu ≤ 1500 * 100 := Int.mul_le_mul (by omega) (by omega) (by omega) (by omega)
  refine z_aload_n (pc' := 1) X dX12_price_0 rfl rfl ?_
  refine z_get1 (pc' := 4) (kf := 1) X in_X12 rfl (by decide) q1686 (Or.inl rfl) hq rfl dX12_price_1 rfl ?_
  refine z_aload_n (pc' := 5) X dX12_price_4 rfl rfl ?_
  refine z_get1 (pc' := 8) (kf := 0) X in_X12 rfl (by decide) q1685 (Or.inl rfl) hq rfl dX12_price_5 rfl ?_
  refine z_szprice (z := z) (pc' := 11) X q1723 (by first | assumption | omega) dX12_price_8 rfl (Nat.le_of_ble_eq_true rfl) (Nat.le_of_ble_eq_true rfl) (Nat.le_of_ble_eq_true rfl) (Nat.le_of_ble_eq_true rfl) ?_
  refine z_grprice (z := r) (pc' := 14) X q1735 (by first | assumption | omega) (by first | assumption | omega) dX12_price_11 rfl (Nat.le_of_ble_eq_true rfl) (Nat.le_of_ble_eq_true rfl) (Nat.le_of_ble_eq_true rfl) (Nat.le_of_ble_eq_true rfl) ?_
  refine z_aload_n (pc' := 15) X dX12_price_14 rfl rfl ?_
  refine z_get1 (pc' := 18) (kf := 2) X in_X12 rfl (by decide) q1687 (Or.inl rfl) hq rfl dX12_price_15 rfl ?_
  refine z_imul (pc' := 19) X dX12_price_18 rfl ?_
  refine z_bipush (pc' := 21) X dX12_price_19 rfl (by decide) ?_
  refine z_idivp (pc' := 22) X (by first | assumption | omega) (by decide) dX12_price_21 rfl ?_
  refine z_iret1 X dX12_price_22 (Nat.le_of_ble_eq_true rfl) (Nat.le_of_ble_eq_true rfl) ?_
  exact ⟨rfl, rfl⟩
theorem Y_X12_toll : zYV yX12_toll cX12_toll 1 (some .int) 0 := ⟨⟨q1716, q1717, q148, q1718⟩, by decide +kernel, by decide⟩
set_option maxRecDepth 100000 in
theorem c_X12_toll (l : Launch) (g : zG) (h : GH) (a : Nat) (z r qu : Int) (hq : h a = some (zO 9 [vR (g.2.2 z.toNat), vR (g.2.2 (3 + r.toNat)), vI qu])) (hz : 0 ≤ z ∧ z ≤ 2) (hr : 0 ≤ r ∧ r ≤ 2) (hu : 0 ≤ qu ∧ qu ≤ 100) : zPur l yX12_toll cX12_toll 1 (some .int) 1 [vR a] g h (some (vI (if qu = 20 then 4 else 2))) := by
  refine zMet.mk (L0 := [some (vR a)]) (by decide) rfl (Nat.le_of_ble_eq_true rfl) rfl (fun C hg hl hnm X => ?_)
  subst hg hl
  refine z_aload_n (pc' := 1) X dX12_toll_0 rfl rfl ?_
  refine z_get1 (pc' := 4) (kf := 2) X in_X12 rfl (by decide) q1687 (Or.inl rfl) hq rfl dX12_toll_1 rfl ?_
  refine z_bipush (pc' := 6) X dX12_toll_4 rfl (by decide) ?_
  refine z_icmp_ne (tgt := 13) (pc' := 9) X (by first | assumption | omega) (by first | assumption | omega) dX12_toll_6 rfl (by decide) (fun c6 => ?_) (fun c6 => ?_)
  · refine z_iconst (pc' := 14) X dX12_toll_13 rfl ?_
    refine z_iret1 X dX12_toll_14 (Nat.le_of_ble_eq_true rfl) (Nat.le_of_ble_eq_true rfl) ?_
    exact ⟨by rw [if_neg c6], rfl⟩
  · refine z_iconst (pc' := 10) X dX12_toll_9 rfl ?_
    refine z_goto (tgt := 14) X dX12_toll_10 (by decide) ?_
    refine z_iret1 X dX12_toll_14 (Nat.le_of_ble_eq_true rfl) (Nat.le_of_ble_eq_true rfl) ?_
    exact ⟨by rw [if_pos c6], rfl⟩
theorem Y_X3_init : zYI yX3_init cX3_init 3 2 := ⟨⟨q174, q114, q175⟩, by decide +kernel, by decide, rfl⟩
set_option maxRecDepth 100000 in
theorem c_X3_init (l : Launch) (g : zG) (h : GH) (a : Nat) (s p : Int) (hq : h a = some (zO 2 [vI 0, vI 0])) : zMet l yX3_init cX3_init 3 none 1 0 0 [vR a, vI s, vI p] g h (fun v h' => v = none ∧ h' = hset h a (zO 2 [vI s, vI p])) := by
  refine zMet.mk (L0 := [some (vR a), some (vI s), some (vI p)]) (by decide) rfl (Nat.le_of_ble_eq_true rfl) rfl (fun C hg hl hnm X => ?_)
  subst hg hl
  refine z_aload_n (pc' := 1) X dX3_init_0 rfl rfl ?_
  refine z_objInit (pc' := 4) X q176 dX3_init_1 rfl (Nat.le_of_ble_eq_true rfl) ?_
  refine z_aload_n (pc' := 5) X dX3_init_4 rfl rfl ?_
  refine z_iload_n (pc' := 6) X dX3_init_5 rfl rfl ?_
  refine z_putF1 (pc' := 9) (kf := 0) X hnm in_X3 tyX3 tyX3_ok nmX3 rfl (by decide) q177 (Or.inl rfl) rfl rfl rfl rfl (Nat.le_of_ble_eq_true rfl) hq dX3_init_6 rfl (fun h1 e1 => ?_)
  have g1 := (congrFun e1 a).trans hset_s
  try dsimp only [List.set] at g1
  refine z_aload_n (pc' := 10) X dX3_init_9 rfl rfl ?_
  refine z_iload_n (pc' := 11) X dX3_init_10 rfl rfl ?_
  refine z_putF1 (pc' := 14) (kf := 1) X hnm in_X3 tyX3 tyX3_ok nmX3 rfl (by decide) q179 (Or.inl rfl) rfl rfl rfl rfl (Nat.le_of_ble_eq_true rfl) g1 dX3_init_11 rfl (fun h2 e2 => ?_)
  have g2 := (congrFun e2 a).trans hset_s
  try dsimp only [List.set] at g2
  refine z_ret1 X dX3_init_14 (Nat.le_of_ble_eq_true rfl) (Nat.le_of_ble_eq_true rfl) ?_
  refine ⟨rfl, ?_⟩
  rw [e2, e1, hset_hset]
  rfl
theorem Y_X4_init : zYI yX4_init cX4_init 1 0 := ⟨⟨q284, q118, q285⟩, by decide +kernel, by decide, rfl⟩
set_option maxRecDepth 100000 in
theorem c_X4_init (l : Launch) (g : zG) (h : GH) (a : Nat) (hq : h a = some (zO 3 [vI 0, vI 0])) : zMet l yX4_init cX4_init 1 none 1 0 0 [vR a] g h (fun v h' => v = none ∧ h' = hset h a (zO 3 [vI 0, vI (-1)])) := by
  refine zMet.mk (L0 := [some (vR a)]) (by decide) rfl (Nat.le_of_ble_eq_true rfl) rfl (fun C hg hl hnm X => ?_)
  subst hg hl
  refine z_aload_n (pc' := 1) X dX4_init_0 rfl rfl ?_
  refine z_objInit (pc' := 4) X q286 dX4_init_1 rfl (Nat.le_of_ble_eq_true rfl) ?_
  refine z_aload_n (pc' := 5) X dX4_init_4 rfl rfl ?_
  refine z_iconst (pc' := 6) X dX4_init_5 rfl ?_
  refine z_put1 (pc' := 9) (kf := 1) X in_X4 tyX4 tyX4_ok nmX4 rfl (by decide) q290 (Or.inl rfl) rfl rfl rfl (Nat.le_of_ble_eq_true rfl) hq dX4_init_6 rfl (fun h1 e1 => ?_)
  have g1 := (congrFun e1 a).trans hset_s
  try dsimp only [List.set] at g1
  refine z_ret1 X dX4_init_9 (Nat.le_of_ble_eq_true rfl) (Nat.le_of_ble_eq_true rfl) ?_
  exact ⟨rfl, e1⟩
theorem Y_X5_init : zYI yX5_init cX5_init 1 0 := ⟨⟨q383, q123, q384⟩, by decide +kernel, by decide, rfl⟩
set_option maxRecDepth 100000 in
theorem c_X5_init (l : Launch) (g : zG) (h : GH) (a : Nat) : zPur l yX5_init cX5_init 1 none 1 [vR a] g h (none) := by
  refine zMet.mk (L0 := [some (vR a)]) (by decide) rfl (Nat.le_of_ble_eq_true rfl) rfl (fun C hg hl hnm X => ?_)
  subst hg hl
  refine z_aload_n (pc' := 1) X dX5_init_0 rfl rfl ?_
  refine z_objInit (pc' := 4) X q385 dX5_init_1 rfl (Nat.le_of_ble_eq_true rfl) ?_
  refine z_ret1 X dX5_init_4 (Nat.le_of_ble_eq_true rfl) (Nat.le_of_ble_eq_true rfl) ?_
  exact ⟨rfl, rfl⟩
theorem Y_X6_init : zYI yX6_init cX6_init 3 2 := ⟨⟨q414, q124, q415⟩, by decide +kernel, by decide, rfl⟩
set_option maxRecDepth 100000 in
theorem c_X6_init (l : Launch) (g : zG) (h : GH) (a z : Nat) (mk : Int) (hq : h a = some (zO 5 [.null, vI 0, vI 0, vI 0])) : zMet l yX6_init cX6_init 3 none 1 0 0 [vR a, vI mk, vR z] g h (fun v h' => v = none ∧ h' = hset h a (zO 5 [vR z, vI mk, vI 0, vI 0])) := by
  refine zMet.mk (L0 := [some (vR a), some (vI mk), some (vR z)]) (by decide) rfl (Nat.le_of_ble_eq_true rfl) rfl (fun C hg hl hnm X => ?_)
  subst hg hl
  refine z_aload_n (pc' := 1) X dX6_init_0 rfl rfl ?_
  refine z_objInit (pc' := 4) X q416 dX6_init_1 rfl (Nat.le_of_ble_eq_true rfl) ?_
  refine z_aload_n (pc' := 5) X dX6_init_4 rfl rfl ?_
  refine z_iload_n (pc' := 6) X dX6_init_5 rfl rfl ?_
  refine z_put1 (pc' := 9) (kf := 1) X in_X6 tyX6 tyX6_ok nmX6 rfl (by decide) q419 (Or.inl rfl) rfl rfl rfl (Nat.le_of_ble_eq_true rfl) hq dX6_init_6 rfl (fun h1 e1 => ?_)
  have g1 := (congrFun e1 a).trans hset_s
  try dsimp only [List.set] at g1
  refine z_aload_n (pc' := 10) X dX6_init_9 rfl rfl ?_
  refine z_aload_n (pc' := 11) X dX6_init_10 rfl rfl ?_
  refine z_putF1 (pc' := 14) (kf := 0) X hnm in_X6 tyX6 tyX6_ok nmX6 rfl (by decide) q417 (Or.inl rfl) rfl rfl rfl rfl (Nat.le_of_ble_eq_true rfl) g1 dX6_init_11 rfl (fun h2 e2 => ?_)
  have g2 := (congrFun e2 a).trans hset_s
  try dsimp only [List.set] at g2
  refine z_ret1 X dX6_init_14 (Nat.le_of_ble_eq_true rfl) (Nat.le_of_ble_eq_true rfl) ?_
  refine ⟨rfl, ?_⟩
  rw [e2, e1, hset_hset]
  rfl
theorem Y_X9_init : zYI yX9_init cX9_init 4 3 := ⟨⟨q632, q142, q633⟩, by decide +kernel, by decide, rfl⟩
set_option maxRecDepth 100000 in
theorem c_X9_init (l : Launch) (g : zG) (h : GH) (a : Nat) (s r dm : Int) (hq : h a = some (zO 7 [vI 0, vI 0, vI 0, vI 0, vI 0])) : zMet l yX9_init cX9_init 4 none 1 0 0 [vR a, vI s, vI r, vI dm] g h (fun v h' => v = none ∧ h' = hset h a (zO 7 [vI s, vI r, vI dm, vI 0, vI 0])) := by
  refine zMet.mk (L0 := [some (vR a), some (vI s), some (vI r), some (vI dm)]) (by decide) rfl (Nat.le_of_ble_eq_true rfl) rfl (fun C hg hl hnm X => ?_)
  subst hg hl
  refine z_aload_n (pc' := 1) X dX9_init_0 rfl rfl ?_
  refine z_objInit (pc' := 4) X q634 dX9_init_1 rfl (Nat.le_of_ble_eq_true rfl) ?_
  refine z_aload_n (pc' := 5) X dX9_init_4 rfl rfl ?_
  refine z_iload_n (pc' := 6) X dX9_init_5 rfl rfl ?_
  refine z_putF1 (pc' := 9) (kf := 0) X hnm in_X9 tyX9 tyX9_ok nmX9 rfl (by decide) q635 (Or.inl rfl) rfl rfl rfl rfl (Nat.le_of_ble_eq_true rfl) hq dX9_init_6 rfl (fun h1 e1 => ?_)
  have g1 := (congrFun e1 a).trans hset_s
  try dsimp only [List.set] at g1
  refine z_aload_n (pc' := 10) X dX9_init_9 rfl rfl ?_
  refine z_iload_n (pc' := 11) X dX9_init_10 rfl rfl ?_
  refine z_put1 (pc' := 14) (kf := 1) X in_X9 tyX9 tyX9_ok nmX9 rfl (by decide) q638 (Or.inl rfl) rfl rfl rfl (Nat.le_of_ble_eq_true rfl) g1 dX9_init_11 rfl (fun h2 e2 => ?_)
  have g2 := (congrFun e2 a).trans hset_s
  try dsimp only [List.set] at g2
  refine z_aload_n (pc' := 15) X dX9_init_14 rfl rfl ?_
  refine z_iload_n (pc' := 16) X dX9_init_15 rfl rfl ?_
  refine z_put1 (pc' := 19) (kf := 2) X in_X9 tyX9 tyX9_ok nmX9 rfl (by decide) q641 (Or.inl rfl) rfl rfl rfl (Nat.le_of_ble_eq_true rfl) g2 dX9_init_16 rfl (fun h3 e3 => ?_)
  have g3 := (congrFun e3 a).trans hset_s
  try dsimp only [List.set] at g3
  refine z_ret1 X dX9_init_19 (Nat.le_of_ble_eq_true rfl) (Nat.le_of_ble_eq_true rfl) ?_
  refine ⟨rfl, ?_⟩
  rw [e3, e2, e1, hset_hset, hset_hset]
  rfl
theorem Y_X10_init : zYI yX10_init cX10_init 5 4 := ⟨⟨q680, q143, q681⟩, by decide +kernel, by decide, rfl⟩
set_option maxRecDepth 100000 in
theorem c_X10_init (l : Launch) (g : zG) (h : GH) (a z r : Nat) (mk sh : Int) (hq : h a = some (zO 8 [vI 0, .null, .null, vI 0, vI 0])) : zMet l yX10_init cX10_init 5 none 1 0 0 [vR a, vI mk, vR z, vR r, vI sh] g h (fun v h' => v = none ∧ h' = hset h a (zO 8 [vI mk, vR z, vR r, vI sh, vI 0])) := by
  refine zMet.mk (L0 := [some (vR a), some (vI mk), some (vR z), some (vR r), some (vI sh)]) (by decide) rfl (Nat.le_of_ble_eq_true rfl) rfl (fun C hg hl hnm X => ?_)
  subst hg hl
  refine z_aload_n (pc' := 1) X dX10_init_0 rfl rfl ?_
  refine z_objInit (pc' := 4) X q682 dX10_init_1 rfl (Nat.le_of_ble_eq_true rfl) ?_
  refine z_aload_n (pc' := 5) X dX10_init_4 rfl rfl ?_
  refine z_iload_n (pc' := 6) X dX10_init_5 rfl rfl ?_
  refine z_putF1 (pc' := 9) (kf := 0) X hnm in_X10 tyX10 tyX10_ok nmX10 rfl (by decide) q683 (Or.inl rfl) rfl rfl rfl rfl (Nat.le_of_ble_eq_true rfl) hq dX10_init_6 rfl (fun h1 e1 => ?_)
  have g1 := (congrFun e1 a).trans hset_s
  try dsimp only [List.set] at g1
  refine z_aload_n (pc' := 10) X dX10_init_9 rfl rfl ?_
  refine z_aload_n (pc' := 11) X dX10_init_10 rfl rfl ?_
  refine z_putF1 (pc' := 14) (kf := 1) X hnm in_X10 tyX10 tyX10_ok nmX10 rfl (by decide) q684 (Or.inl rfl) rfl rfl rfl rfl (Nat.le_of_ble_eq_true rfl) g1 dX10_init_11 rfl (fun h2 e2 => ?_)
  have g2 := (congrFun e2 a).trans hset_s
  try dsimp only [List.set] at g2
  refine z_aload_n (pc' := 15) X dX10_init_14 rfl rfl ?_
  refine z_aload_n (pc' := 16) X dX10_init_15 rfl rfl ?_
  refine z_putF1 (pc' := 19) (kf := 2) X hnm in_X10 tyX10 tyX10_ok nmX10 rfl (by decide) q686 (Or.inl rfl) rfl rfl rfl rfl (Nat.le_of_ble_eq_true rfl) g2 dX10_init_16 rfl (fun h3 e3 => ?_)
  have g3 := (congrFun e3 a).trans hset_s
  try dsimp only [List.set] at g3
  refine z_aload_n (pc' := 20) X dX10_init_19 rfl rfl ?_
  refine z_iload (pc' := 22) X dX10_init_20 rfl rfl ?_
  refine z_put1 (pc' := 25) (kf := 3) X in_X10 tyX10 tyX10_ok nmX10 rfl (by decide) q688 (Or.inl rfl) rfl rfl rfl (Nat.le_of_ble_eq_true rfl) g3 dX10_init_22 rfl (fun h4 e4 => ?_)
  have g4 := (congrFun e4 a).trans hset_s
  try dsimp only [List.set] at g4
  refine z_ret1 X dX10_init_25 (Nat.le_of_ble_eq_true rfl) (Nat.le_of_ble_eq_true rfl) ?_
  refine ⟨rfl, ?_⟩
  rw [e4, e3, e2, e1, hset_hset, hset_hset, hset_hset]
  rfl
theorem Y_X12_init : zYI yX12_init cX12_init 4 3 := ⟨⟨q1682, q148, q1683⟩, by decide +kernel, by decide, rfl⟩
set_option maxRecDepth 100000 in
theorem c_X12_init (l : Launch) (g : zG) (h : GH) (a z r : Nat) (qu : Int) (hq : h a = some (zO 9 [.null, .null, vI 0])) : zMet l yX12_init cX12_init 4 none 1 0 0 [vR a, vR z, vR r, vI qu] g h (fun v h' => v = none ∧ h' = hset h a (zO 9 [vR z, vR r, vI qu])) := by
  refine zMet.mk (L0 := [some (vR a), some (vR z), some (vR r), some (vI qu)]) (by decide) rfl (Nat.le_of_ble_eq_true rfl) rfl (fun C hg hl hnm X => ?_)
  subst hg hl
  refine z_aload_n (pc' := 1) X dX12_init_0 rfl rfl ?_
  refine z_objInit (pc' := 4) X q1684 dX12_init_1 rfl (Nat.le_of_ble_eq_true rfl) ?_
  refine z_aload_n (pc' := 5) X dX12_init_4 rfl rfl ?_
  refine z_aload_n (pc' := 6) X dX12_init_5 rfl rfl ?_
  refine z_putF1 (pc' := 9) (kf := 0) X hnm in_X12 tyX12 tyX12_ok nmX12 rfl (by decide) q1685 (Or.inl rfl) rfl rfl rfl rfl (Nat.le_of_ble_eq_true rfl) hq dX12_init_6 rfl (fun h1 e1 => ?_)
  have g1 := (congrFun e1 a).trans hset_s
  try dsimp only [List.set] at g1
  refine z_aload_n (pc' := 10) X dX12_init_9 rfl rfl ?_
  refine z_aload_n (pc' := 11) X dX12_init_10 rfl rfl ?_
  refine z_putF1 (pc' := 14) (kf := 1) X hnm in_X12 tyX12 tyX12_ok nmX12 rfl (by decide) q1686 (Or.inl rfl) rfl rfl rfl rfl (Nat.le_of_ble_eq_true rfl) g1 dX12_init_11 rfl (fun h2 e2 => ?_)
  have g2 := (congrFun e2 a).trans hset_s
  try dsimp only [List.set] at g2
  refine z_aload_n (pc' := 15) X dX12_init_14 rfl rfl ?_
  refine z_iload_n (pc' := 16) X dX12_init_15 rfl rfl ?_
  refine z_putF1 (pc' := 19) (kf := 2) X hnm in_X12 tyX12 tyX12_ok nmX12 rfl (by decide) q1687 (Or.inl rfl) rfl rfl rfl rfl (Nat.le_of_ble_eq_true rfl) g2 dX12_init_16 rfl (fun h3 e3 => ?_)
  have g3 := (congrFun e3 a).trans hset_s
  try dsimp only [List.set] at g3
  refine z_ret1 X dX12_init_19 (Nat.le_of_ble_eq_true rfl) (Nat.le_of_ble_eq_true rfl) ?_
  refine ⟨rfl, ?_⟩
  rw [e3, e2, e1, hset_hset, hset_hset]
  rfl
theorem Y_X15_init : zYI yX15_init cX15_init 3 2 := ⟨⟨q1173, q152, q1174⟩, by decide +kernel, by decide, rfl⟩
set_option maxRecDepth 100000 in
theorem c_X15_init (l : Launch) (g : zG) (h : GH) (a m : Nat) (t : Int) (hq : h a = some (zO 11 [.null, vI 0])) : zMet l yX15_init cX15_init 3 none 1 0 0 [vR a, vR m, vI t] g h (fun v h' => v = none ∧ h' = hset h a (zO 11 [vR m, vI t])) := by
  refine zMet.mk (L0 := [some (vR a), some (vR m), some (vI t)]) (by decide) rfl (Nat.le_of_ble_eq_true rfl) rfl (fun C hg hl hnm X => ?_)
  subst hg hl
  refine z_aload_n (pc' := 1) X dX15_init_0 rfl rfl ?_
  refine z_objInit (pc' := 4) X q1175 dX15_init_1 rfl (Nat.le_of_ble_eq_true rfl) ?_
  refine z_aload_n (pc' := 5) X dX15_init_4 rfl rfl ?_
  refine z_aload_n (pc' := 6) X dX15_init_5 rfl rfl ?_
  refine z_putF1 (pc' := 9) (kf := 0) X hnm in_X15 tyX15 tyX15_ok nmX15 rfl (by decide) q1176 (Or.inl rfl) rfl rfl rfl rfl (Nat.le_of_ble_eq_true rfl) hq dX15_init_6 rfl (fun h1 e1 => ?_)
  have g1 := (congrFun e1 a).trans hset_s
  try dsimp only [List.set] at g1
  refine z_aload_n (pc' := 10) X dX15_init_9 rfl rfl ?_
  refine z_iload_n (pc' := 11) X dX15_init_10 rfl rfl ?_
  refine z_putF1 (pc' := 14) (kf := 1) X hnm in_X15 tyX15 tyX15_ok nmX15 rfl (by decide) q1178 (Or.inl rfl) rfl rfl rfl rfl (Nat.le_of_ble_eq_true rfl) g1 dX15_init_11 rfl (fun h2 e2 => ?_)
  have g2 := (congrFun e2 a).trans hset_s
  try dsimp only [List.set] at g2
  refine z_ret1 X dX15_init_14 (Nat.le_of_ble_eq_true rfl) (Nat.le_of_ble_eq_true rfl) ?_
  refine ⟨rfl, ?_⟩
  rw [e2, e1, hset_hset]
  rfl
theorem Y_X16_init : zYI yX16_init cX16_init 3 2 := ⟨⟨q1194, q153, q1195⟩, by decide +kernel, by decide, rfl⟩
set_option maxRecDepth 100000 in
theorem c_X16_init (l : Launch) (g : zG) (h : GH) (a x y : Nat) (hq : h a = some (zO 12 [.null, .null])) : zMet l yX16_init cX16_init 3 none 1 0 0 [vR a, vR x, vR y] g h (fun v h' => v = none ∧ h' = hset h a (zO 12 [vR x, vR y])) := by
  refine zMet.mk (L0 := [some (vR a), some (vR x), some (vR y)]) (by decide) rfl (Nat.le_of_ble_eq_true rfl) rfl (fun C hg hl hnm X => ?_)
  subst hg hl
  refine z_aload_n (pc' := 1) X dX16_init_0 rfl rfl ?_
  refine z_objInit (pc' := 4) X q1196 dX16_init_1 rfl (Nat.le_of_ble_eq_true rfl) ?_
  refine z_aload_n (pc' := 5) X dX16_init_4 rfl rfl ?_
  refine z_aload_n (pc' := 6) X dX16_init_5 rfl rfl ?_
  refine z_putF1 (pc' := 9) (kf := 0) X hnm in_X16 tyX16 tyX16_ok nmX16 rfl (by decide) q1197 (Or.inl rfl) rfl rfl rfl rfl (Nat.le_of_ble_eq_true rfl) hq dX16_init_6 rfl (fun h1 e1 => ?_)
  have g1 := (congrFun e1 a).trans hset_s
  try dsimp only [List.set] at g1
  refine z_aload_n (pc' := 10) X dX16_init_9 rfl rfl ?_
  refine z_aload_n (pc' := 11) X dX16_init_10 rfl rfl ?_
  refine z_putF1 (pc' := 14) (kf := 1) X hnm in_X16 tyX16 tyX16_ok nmX16 rfl (by decide) q1199 (Or.inl rfl) rfl rfl rfl rfl (Nat.le_of_ble_eq_true rfl) g1 dX16_init_11 rfl (fun h2 e2 => ?_)
  have g2 := (congrFun e2 a).trans hset_s
  try dsimp only [List.set] at g2
  refine z_ret1 X dX16_init_14 (Nat.le_of_ble_eq_true rfl) (Nat.le_of_ble_eq_true rfl) ?_
  refine ⟨rfl, ?_⟩
  rw [e2, e1, hset_hset]
  rfl
end ZSMALL
