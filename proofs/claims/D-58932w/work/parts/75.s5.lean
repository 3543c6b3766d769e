/-! A NIGHT: pure -/
section ZS5
def dryP (st : Int) (p : Nat × El) : Nat × El := (p.1, dryE st p.2)
def rotE (e : El) : El := if e.2.2.2.2 = 0 then e else (e.1, e.2.1 - (e.2.1 + 9) / 10, e.2.2.1, e.2.2.2.1, e.2.2.2.2)
def rotZ (e : El) : Int := if e.2.2.2.2 = 0 then 0 else (e.2.1 + 9) / 10
def rotP (p : Nat × El) : Nat × El := (p.1, rotE p.2)
def agP (p : Nat × El) : Nat × El := (p.1, dayP p.2)
def dryY (e : El) : Prop := okE e ∧ (e.2.2.2.2 = 0 → e.2.2.2.1 ≤ 4)
theorem dry_ok {st : Int} {e : El} (h0 : 0 ≤ st) (h : dryY e) : okE (dryE st e) := by
  obtain ⟨⟨a, b, c, d, m⟩, w⟩ := h
  have hd : 0 ≤ dryD st e ∧ dryD st e ≤ 99 := by unfold dryD; split <;> omega
  unfold dryE
  split
  · rename_i hm
    have hw := w hm
    have hw2 : 0 ≤ dryW st e ∧ dryW st e ≤ 5 := by unfold dryW; split <;> omega
    refine ⟨a, b, hd, hw2, ?_⟩
    show (if dryW st e = 5 then (1 : Int) else 0) = 0 ∨ (if dryW st e = 5 then (1 : Int) else 0) = 1
    split <;> simp
  · exact ⟨a, b, hd, d, m⟩
theorem dry_ab {st : Int} {e : El} (h0 : 0 ≤ st) (h : dryY e) : abB (dryE st e) = wetB (dampB st (abB e)) ∧ dryC st e = wetC (dampB st (abB e)) := by
  obtain ⟨⟨a, b, c, d, m⟩, w⟩ := h
  have e1 : dampB st (abB e) = (e.1, e.2.1, dryD st e, if e.2.2.2.2 = 1 then -1 else e.2.2.2.1) := rfl
  rw [e1]
  by_cases hm : e.2.2.2.2 = 0
  · have hw := w hm
    rw [if_neg (show ¬ e.2.2.2.2 = 1 by omega)]
    have e2 : dryE st e = (e.1, e.2.1, dryD st e, dryW st e, if dryW st e = 5 then 1 else 0) := if_pos hm
    have e3 : wetW (e.1, e.2.1, dryD st e, e.2.2.2.1) = dryW st e := rfl
    have n1 : ¬ e.2.2.2.1 = -1 := by omega
    constructor
    · rw [e2]
      unfold wetB
      rw [if_neg n1, e3]
      show (e.1, e.2.1, dryD st e, if (if dryW st e = 5 then (1 : Int) else 0) = 1 then -1 else dryW st e) = _
      by_cases h5 : dryW st e = 5
      · rw [if_pos h5, if_pos rfl, if_pos h5]
      · rw [if_neg h5, if_neg (by decide), if_neg h5]
    · unfold dryC wetC
      rw [if_neg n1, e3]
      by_cases h5 : dryW st e = 5
      · rw [if_pos h5, if_pos ⟨hm, h5⟩]
      · rw [if_neg h5, if_neg fun hh => h5 hh.2]
  · have hm1 : e.2.2.2.2 = 1 := by omega
    rw [if_pos hm1]
    constructor
    · rw [show dryE st e = (e.1, e.2.1, dryD st e, e.2.2.2.1, e.2.2.2.2) from if_neg hm]
      show (e.1, e.2.1, dryD st e, if e.2.2.2.2 = 1 then -1 else e.2.2.2.1) = _
      rw [if_pos hm1]
      rfl
    · unfold dryC wetC
      rw [if_neg fun hh => hm hh.1]
      rfl
theorem dry_L {st : Int} (h0 : 0 ≤ st) : ∀ {L : ELs}, (∀ p ∈ L, dryY p.2) → (L.map (dryP st)).map (fun p => abB p.2) = ((L.map (fun p => abB p.2)).map (dampB st)).map wetB ∧ lsum (fun p => dryC st p.2) L = wetN ((L.map (fun p => abB p.2)).map (dampB st))
  | [], _ => ⟨rfl, rfl⟩
  | p :: t, h => by
    obtain ⟨a, b⟩ := dry_L h0 (L := t) fun x hx => h x (List.mem_cons_of_mem _ hx)
    obtain ⟨c, d⟩ := dry_ab h0 (h p List.mem_cons_self)
    simp only [List.map_cons]
    rw [a, wetN_c, ← b, ← d]
    refine ⟨?_, rfl⟩
    show abB (dryE st p.2) :: _ = _
    rw [c]
theorem mo_ab {e : El} (h : e.2.2.2.2 = 0 ∨ e.2.2.2.2 = 1) (hw : 0 ≤ e.2.2.2.1) : (abB e).2.2.2 = -1 ↔ e.2.2.2.2 = 1 := by
  show (if e.2.2.2.2 = 1 then -1 else e.2.2.2.1) = -1 ↔ _
  split <;> omega
theorem mo_G {L : ELs} (hE : ∀ p ∈ L, okE p.2) {j : Int} (hj : 0 ≤ j) : moG (L.map (fun p => abB p.2)) j = 1 ↔ moR L (j - 1) = 1 := by
  unfold moG
  by_cases h1 : 1 ≤ j
  · by_cases h2 : j - 1 < (L.length : Int)
    · obtain ⟨q, e, hk⟩ := ELs.at (ps := L) (k := j - 1) (by omega)
      obtain ⟨-, -, -, c, d⟩ := hE _ (List.mem_of_getElem? hk)
      rw [moR_at (by omega) hk, List.getElem?_map, hk]
      show (if 1 ≤ j ∧ some ((abB e).2.2.2) = some (-1) then (1 : Int) else 0) = 1 ↔ _
      rw [← mo_ab d c.1]
      split
      · rename_i hx
        exact ⟨fun _ => Option.some.inj hx.2, fun _ => rfl⟩
      · rename_i hx
        exact ⟨fun hh => absurd hh (by decide), fun hh => absurd ⟨h1, congrArg some hh⟩ hx⟩
    · rw [moR_no (by omega), List.getElem?_eq_none (by rw [List.length_map]; omega), if_neg fun hh => absurd hh.2 (by simp)]
  · rw [moR_no (by omega), if_neg fun hh => h1 hh.1]
theorem sp_cond {L : ELs} (hE : ∀ p ∈ L, okE p.2) {i : Int} (hi : 0 ≤ i) {e : El} (he : okE e) : (e.2.2.2.2 = 0 ∧ 20 ≤ e.2.2.1 ∧ (moR L (i - 1) = 1 ∨ moR L (i + 1) = 1)) ↔ ((abB e).2.2.2 ≠ -1 ∧ 20 ≤ (abB e).2.2.1 ∧ (moG (L.map (fun p => abB p.2)) i = 1 ∨ moG (L.map (fun p => abB p.2)) (i + 2) = 1)) := by
  rw [mo_G hE hi, mo_G hE (by omega : 0 ≤ i + 2), show i + 2 - 1 = i + 1 by omega, abB_m ⟨he.2.2.2.1, he.2.2.2.2⟩]
  exact Iff.rfl
theorem sp_ab {L : ELs} (hE : ∀ p ∈ L, okE p.2) {i : Int} (hi : 0 ≤ i) {e : El} (he : okE e) : abB (spE L i e) = sprB (moG (L.map (fun p => abB p.2))) i (abB e) ∧ spC L i e = sprC (moG (L.map (fun p => abB p.2))) i (abB e) ∧ okE (spE L i e) := by
  have hc := sp_cond hE hi he
  unfold spE spC sprB sprC
  by_cases h : e.2.2.2.2 = 0 ∧ 20 ≤ e.2.2.1 ∧ (moR L (i - 1) = 1 ∨ moR L (i + 1) = 1)
  · rw [if_pos h, if_pos h, if_pos (hc.mp h), if_pos (hc.mp h)]
    exact ⟨rfl, rfl, he.1, he.2.1, he.2.2.1, he.2.2.2.1, Or.inr rfl⟩
  · rw [if_neg h, if_neg h, if_neg fun hh => h (hc.mpr hh), if_neg fun hh => h (hc.mpr hh)]
    exact ⟨rfl, rfl, he⟩
theorem sprL_at {G : Int → Int} : ∀ {bs : List Bl} {i : Int} {k : Nat}, (sprL G i bs)[k]? = (bs[k]?).map (sprB G (i + k))
  | [], _, _ => rfl
  | b :: t, i, 0 => by
    show some (sprB G i b) = some (sprB G (i + (0 : Int)) b)
    rw [Int.add_zero]
  | b :: t, i, k + 1 => by
    show (sprL G (i + 1) t)[k]? = (t[k]?).map (sprB G (i + ((k + 1 : Nat) : Int)))
    rw [sprL_at, show i + 1 + (k : Int) = i + ((k + 1 : Nat) : Int) by omega]
theorem sprN_app {G : Int → Int} {b : Bl} : ∀ {bs : List Bl} {i : Int}, sprN G i (bs ++ [b]) = sprN G i bs + sprC G (i + bs.length) b
  | [], i => by
    show sprC G i b + 0 = 0 + sprC G (i + (0 : Int)) b
    rw [Int.add_zero, Int.add_zero, Int.zero_add]
  | c :: t, i => by
    rw [List.cons_append, sprN_c, sprN_c, sprN_app, List.length_cons, show i + 1 + (t.length : Int) = i + ((t.length + 1 : Nat) : Int) by omega]
    omega
theorem sp_L {L : ELs} (hE : ∀ p ∈ L, okE p.2) : (spL L).map (fun p => abB p.2) = sprL (moG (L.map (fun p => abB p.2))) 0 (L.map (fun p => abB p.2)) ∧ spN L L.length = sprN (moG (L.map (fun p => abB p.2))) 0 (L.map (fun p => abB p.2)) ∧ ∀ p ∈ spL L, okE p.2 := by
  refine ⟨List.ext_getElem? fun k => ?_, ?_, fun p hp => ?_⟩
  · rw [sprL_at, List.getElem?_map, List.getElem?_map]
    unfold spL
    rw [List.getElem?_mapIdx]
    cases hk : L[k]? with
    | none => rfl
    | some p =>
      show some (abB (spE L k p.2)) = some (sprB _ (0 + (k : Int)) (abB p.2))
      rw [(sp_ab hE (by omega) (hE p (List.mem_of_getElem? hk))).1, Int.zero_add]
  · have key : ∀ n : Nat, n ≤ L.length → spN L n = sprN (moG (L.map (fun p => abB p.2))) 0 ((L.map (fun p => abB p.2)).take n) := by
      intro n
      induction n with
      | zero => intro _; rfl
      | succ n ih =>
        intro hn
        have hk : L[n]? = some L[n] := List.getElem?_eq_getElem (by omega)
        rw [List.take_succ, List.getElem?_map, hk]
        show spN L n + _ = sprN _ _ (_ ++ [abB L[n].2])
        rw [hk, sprN_app, ← ih (by omega), List.length_take, List.length_map, show (0 : Int) + ((min n L.length : Nat) : Int) = (n : Int) by omega]
        show spN L n + spC L (n : Int) L[n].2 = _
        rw [(sp_ab hE (by omega) (hE _ (List.getElem_mem _))).2.1]
    rw [key _ (Nat.le_refl _), List.take_of_length_le (by rw [List.length_map]; omega)]
  · obtain ⟨k, hk⟩ := List.getElem?_of_mem hp
    unfold spL at hk
    rw [List.getElem?_mapIdx] at hk
    cases hk2 : L[k]? with
    | none => rw [hk2] at hk; cases hk
    | some x =>
      rw [hk2] at hk
      cases hk
      exact (sp_ab hE (by omega) (hE x (List.mem_of_getElem? hk2))).2.2
theorem rot_ab {e : El} (he : okE e) : abB (rotE e) = ((abB e).1, (abB e).2.1 - rotX (abB e), (abB e).2.2.1, (abB e).2.2.2) ∧ rotZ e = rotX (abB e) ∧ okE (rotE e) := by
  obtain ⟨a, b, c, d, m⟩ := he
  have h1 := mo_ab m d.1
  unfold rotE rotZ rotX
  by_cases hm : e.2.2.2.2 = 0
  · rw [if_pos hm, if_pos hm, if_neg (show ¬ (abB e).2.2.2 = -1 by rw [h1]; omega)]
    refine ⟨?_, rfl, a, b, c, d, m⟩
    rw [Int.sub_zero]
  · rw [if_neg hm, if_neg hm, if_pos (h1.mpr (by omega))]
    refine ⟨rfl, rfl, a, ?_, c, d, m⟩
    show 0 ≤ e.2.1 - (e.2.1 + 9) / 10 ∧ e.2.1 - (e.2.1 + 9) / 10 ≤ 300
    omega
theorem rot_L : ∀ {L : ELs}, (∀ p ∈ L, okE p.2) → ((L.map rotP).filter nzB).map (fun p => abB p.2) = rotL (L.map (fun p => abB p.2)) ∧ lsum (fun p => rotZ p.2) L = rotN (L.map (fun p => abB p.2))
  | [], _ => ⟨rfl, rfl⟩
  | p :: t, h => by
    obtain ⟨a, b⟩ := rot_L (L := t) fun x hx => h x (List.mem_cons_of_mem _ hx)
    obtain ⟨c, d, -⟩ := rot_ab (h p List.mem_cons_self)
    simp only [List.map_cons]
    have e0 : (rotP p).2.2.1 = (abB p.2).2.1 - rotX (abB p.2) := congrArg (fun b : Bl => b.2.1) c
    rw [rotL_c, rotN_c, ← b, ← d]
    refine ⟨?_, rfl⟩
    by_cases hz : (abB p.2).2.1 - rotX (abB p.2) = 0
    · rw [List.filter_cons_of_neg (nzB_f (e0.trans hz)), if_pos (by rw [d]; exact hz), a]
    · rw [List.filter_cons_of_pos (nzB_t (by rw [e0]; exact hz)), if_neg (by rw [d]; exact hz), List.map_cons, a]
      show abB (rotE p.2) :: _ = _
      rw [c, d]
theorem u40_damp {st : Int} : ∀ {bs : List Bl}, lsum (fun b : Bl => 40 * b.2.1) (bs.map (dampB st)) = lsum (fun b : Bl => 40 * b.2.1) bs := fun {bs} => by rw [lsum_map]; rfl
theorem u40_wet : ∀ {bs : List Bl}, lsum (fun b : Bl => 40 * b.2.1) (bs.map wetB) = lsum (fun b : Bl => 40 * b.2.1) bs
  | [] => rfl
  | b :: t => by
    show 40 * (wetB b).2.1 + lsum _ (t.map wetB) = 40 * b.2.1 + lsum _ t
    rw [u40_wet, show (wetB b).2.1 = b.2.1 by unfold wetB; split <;> rfl]
theorem u40_spr {G : Int → Int} : ∀ {bs : List Bl} {i : Int}, lsum (fun b : Bl => 40 * b.2.1) (sprL G i bs) = lsum (fun b : Bl => 40 * b.2.1) bs
  | [], _ => rfl
  | b :: t, i => by
    rw [sprL_c]
    show 40 * (sprB G i b).2.1 + lsum _ (sprL G (i + 1) t) = 40 * b.2.1 + lsum _ t
    rw [u40_spr, show (sprB G i b).2.1 = b.2.1 by unfold sprB; split <;> rfl]
theorem u40_rot : ∀ {bs : List Bl}, lsum (fun b : Bl => 40 * b.2.1) (rotL bs) = lsum (fun b : Bl => 40 * b.2.1) bs - 40 * rotN bs
  | [] => rfl
  | b :: t => by
    have ih := u40_rot (bs := t)
    rw [rotL_c, rotN_c]
    show _ = 40 * b.2.1 + lsum (fun b : Bl => 40 * b.2.1) t - 40 * (rotX b + rotN t)
    split
    · rw [ih]
      omega
    · show 40 * (b.2.1 - rotX b) + lsum (fun b : Bl => 40 * b.2.1) (rotL t) = _
      rw [ih]
      omega
theorem nightS_n {S : St} {j : Int} (a : j ≠ 0) (b : j ≠ 1) (c : j ≠ 2) : (nightS S).1 j = S.1 j := by
  show iup (iup (iup S.1 0 _) 2 _) 1 _ j = _
  rw [iup_n b, iup_n c, iup_n a]
theorem unitsS_night {S : St} : unitsS (nightS S) = unitsS S - 40 * nLost S := by
  unfold unitsS
  rw [nightS_n (by decide) (by decide) (by decide), nightS_n (by decide) (by decide) (by decide), nightS_n (by decide) (by decide) (by decide), nightS_n (by decide) (by decide) (by decide)]
  show S.1 7 + lsum (fun b : Bl => 40 * b.2.1) (rotL (nSpr S)) + (S.1 117 + S.1 120 + S.1 123) + lsum (fun p : Pl => p.2.2.2.1 * mZ p.2.1) (S.2.2.1.map dayP) + lsum unitsQ S.2.2.2 = _
  rw [u40_rot, lsum_map, show lsum (fun b : Bl => 40 * b.2.1) (nSpr S) = lsum (fun b : Bl => 40 * b.2.1) S.2.1 from u40_spr.trans (u40_wet.trans u40_damp)]
  show S.1 7 + (_ - 40 * nLost S) + _ + lsum (fun p : Pl => p.2.2.2.1 * mZ p.2.1) S.2.2.1 + _ = _
  omega
theorem dryY_of {f : Int → Int} {Ls : Nat → ELs} {S : St} (T : tie f Ls S) (hk : okY S) : ∀ p ∈ Ls 1, dryY p.2 := fun p hp => by
  obtain ⟨k, hkk⟩ := List.getElem?_of_mem hp
  have h1 := T.bale hk (e := p.2) (q := p.1) hkk
  have h2 : abB p.2 ∈ S.2.1 := by rw [← T.2.2.1.1]; exact List.mem_map.mpr ⟨_, hp, rfl⟩
  obtain ⟨-, -, -, b3⟩ := hk.2.1 _ h2
  refine ⟨h1, fun h0 => ?_⟩
  have b3 : -1 ≤ (if p.2.2.2.2.2 = 1 then -1 else p.2.2.2.2.1) ∧ (if p.2.2.2.2.2 = 1 then -1 else p.2.2.2.2.1) ≤ 4 := b3
  rw [if_neg (by omega)] at b3
  exact b3.2
/-- the lists of a night -/
def nL1 (s : Int) (L : ELs) : ELs := L.map (dryP s)
def nL4 (s : Int) (L : ELs) : ELs := ((spL (nL1 s L)).map rotP).filter nzB
theorem nL_facts {f : Int → Int} {Ls : Nat → ELs} {S : St} (T : tie f Ls S) (hk : okY S) :
    (∀ p ∈ nL1 (nStove S) (Ls 1), okE p.2) ∧ (∀ p ∈ spL (nL1 (nStove S) (Ls 1)), okE p.2) ∧ (nL4 (nStove S) (Ls 1)).map (fun p => abB p.2) = rotL (nSpr S) ∧
    lsum (fun p => dryC (nStove S) p.2) (Ls 1) + spN (nL1 (nStove S) (Ls 1)) (nL1 (nStove S) (Ls 1)).length = nNew S ∧ lsum (fun p => rotZ p.2) (spL (nL1 (nStove S) (Ls 1))) = nLost S := by
  have h0 : 0 ≤ nStove S := by have := hk.1.1.2.2.1; unfold nStove; split <;> omega
  have hY := dryY_of T hk
  have h1 : ∀ p ∈ nL1 (nStove S) (Ls 1), okE p.2 := fun p hp => by
    obtain ⟨x, hx, rfl⟩ := List.mem_map.mp hp
    exact dry_ok h0 (hY x hx)
  obtain ⟨a, b⟩ := dry_L h0 hY
  obtain ⟨c, d, e⟩ := sp_L h1
  obtain ⟨u, v⟩ := rot_L e
  rw [T.2.2.1.1] at a b
  have a : (nL1 (nStove S) (Ls 1)).map (fun p => abB p.2) = nWet S := a
  rw [a] at c d
  have c : _ = nSpr S := c
  rw [c] at u v
  refine ⟨h1, e, u, ?_, v⟩
  rw [b, d]
  rfl
theorem night_tie {f f' : Int → Int} {Ls : Nat → ELs} {S : St} (T : tie f Ls S) (hk : okY S) (h0 : f' 0 = f 0 + 1) (h1 : f' 1 = f 1 - 4 * nStove S) (h2 : f' 2 = nStove S) (h202 : f' 202 = f 202 + nLost S) (h205 : f' 205 = f 205 + nNew S)
    (hr : ∀ j, j ≠ 0 → j ≠ 1 → j ≠ 2 → j ≠ 202 → j ≠ 205 → f' j = f j) : tie f' (lup (lup Ls 1 (nL4 (nStove S) (Ls 1))) 4 ((Ls 4).map agP)) (nightS S) := by
  obtain ⟨-, -, n3, -, -⟩ := nL_facts T hk
  obtain ⟨T0, ⟨Tc, Tc2⟩, ⟨Tb, Tb1, Tb2⟩, ⟨Tv, Tv2⟩, ⟨Tm, Tm2⟩, ⟨Tp, Tp1, Tp2⟩, ⟨Tr, Tr1⟩, Ta, Tz, Tz2⟩ := id T
  have hLl : (nL4 (nStove S) (Ls 1)).length ≤ 24 := by
    refine Nat.le_trans (List.length_filter_le _ _) ?_
    rw [List.length_map, spL_len]
    unfold nL1
    rw [List.length_map]
    exact Tb1
  have hY := nL_facts T hk
  have hN : 0 ≤ nNew S ∧ nNew S ≤ 48 := by
    have a := wetN_b (S.2.1.map (dampB (nStove S)))
    have c := sprN_b (G := moG (nWet S)) (nWet S) 0
    have l1 : (nWet S).length = S.2.1.length := by unfold nWet; rw [List.length_map, List.length_map]
    rw [List.length_map] at a
    rw [l1] at c
    have l2 := T.lens.1
    unfold nNew
    omega
  refine ⟨fun j hj => ?_, ⟨Tc, fun k q e hh => ?_⟩, ⟨n3, hLl, fun p hp => ?_⟩, ⟨Tv, fun k q e hh => ?_⟩, ⟨Tm, fun k q e hh => ?_⟩, ⟨?_, by show ((Ls 4).map agP).length ≤ 12; rw [List.length_map]; exact Tp1, fun p hp => by
    obtain ⟨x, hx, rfl⟩ := List.mem_map.mp (show p ∈ (Ls 4).map agP from hp)
    exact Tp2 x hx⟩, ⟨Tr, Tr1⟩, ?_, ?_, ?_⟩
  · by_cases j0 : j = 0
    · subst j0
      rw [h0, T0 0 (by omega)]
      rfl
    · by_cases j1 : j = 1
      · subst j1
        rw [h1, T0 1 (by omega)]
        rfl
      · by_cases j2 : j = 2
        · subst j2
          rw [h2]
          rfl
        · rw [hr j j0 j1 j2 (by omega) (by omega), nightS_n j0 j1 j2]
          exact T0 j hj
  · rw [nightS_n (by omega) (by omega) (by omega), nightS_n (by omega) (by omega) (by omega)]
    exact Tc2 k q e hh
  · have hp : p ∈ ((spL (nL1 (nStove S) (Ls 1))).map rotP).filter nzB := hp
    obtain ⟨x, hx, rfl⟩ := List.mem_map.mp (List.mem_filter.mp hp).1
    have := (rot_ab (hY.2.1 x hx)).2.2
    exact ⟨this.2.2.2.2, this.2.2.2.1⟩
  · rw [nightS_n (by omega) (by omega) (by omega), nightS_n (by omega) (by omega) (by omega), nightS_n (by omega) (by omega) (by omega)]
    exact Tv2 k q e hh
  · rw [nightS_n (by omega) (by omega) (by omega), nightS_n (by omega) (by omega) (by omega), nightS_n (by omega) (by omega) (by omega)]
    exact Tm2 k q e hh
  · show ((Ls 4).map agP).map Prod.snd = S.2.2.1.map dayP
    rw [← Tp, List.map_map, List.map_map]
    rfl
  · rw [unitsS_night, h202, hr 201 (by decide) (by decide) (by decide) (by decide) (by decide), hr 203 (by decide) (by decide) (by decide) (by decide) (by decide), hr 204 (by decide) (by decide) (by decide) (by decide) (by decide)]
    omega
  · rw [h205]
    omega
  · rw [h205, h0]
    omega
end ZS5
