/-! THE STATE: bales taken, quires packed -/
section ZS7
/-- what is taken of a row of elements, one after the other -/
def gnR (X : Int → El → Int) (W : El → Int → El) : Int → ELs → ELs
  | _, [] => []
  | l, p :: t => (p.1, W p.2 (X l p.2)) :: gnR X W (l - X l p.2) t
def gnL (X : Int → El → Int) : Int → ELs → Nat → Int
  | l, [], _ => l
  | l, _ :: _, 0 => l
  | l, p :: t, k + 1 => gnL X (l - X l p.2) t k
theorem gnL_0 {X : Int → El → Int} {l : Int} : ∀ {L : ELs}, gnL X l L 0 = l
  | [] => rfl
  | _ :: _ => rfl
theorem gnR_len {X : Int → El → Int} {W : El → Int → El} : ∀ {L : ELs} {l : Int}, (gnR X W l L).length = L.length
  | [], _ => rfl
  | p :: t, l => by
    show (gnR X W _ t).length + 1 = t.length + 1
    rw [gnR_len]
theorem gnR_an {X : Int → El → Int} {W : El → Int → El} : ∀ {L : ELs} {l : Int} {k : Nat} {q : Nat} {e : El}, L[k]? = some (q, e) → (gnR X W l L)[k]? = some (q, W e (X (gnL X l L k) e)) ∧ gnL X l L (k + 1) = gnL X l L k - X (gnL X l L k) e
  | [], _, _, _, _, h => nomatch h
  | p :: t, l, 0, q, e, h => by
    have h : some p = some (q, e) := h
    cases h
    exact ⟨rfl, gnL_0⟩
  | p :: t, l, k + 1, q, e, h => gnR_an (L := t) (l := l - X l p.2) h
theorem gnR_at {X : Int → El → Int} {W : El → Int → El} {L : ELs} {l k : Int} {q : Nat} {e : El} (h0 : 0 ≤ k) (h : L[k.toNat]? = some (q, e)) : (gnR X W l L)[k.toNat]? = some (q, W e (X (gnL X l L k.toNat) e)) ∧ gnL X l L (k + 1).toNat = gnL X l L k.toNat - X (gnL X l L k.toNat) e := by
  rw [show (k + 1).toNat = k.toNat + 1 by omega]
  exact gnR_an h
theorem gnR_z {X : Int → El → Int} {W : El → Int → El} : ∀ {L : ELs}, (∀ p ∈ L, X 0 p.2 = 0 ∧ W p.2 0 = p.2) → gnR X W 0 L = L
  | [], _ => rfl
  | p :: t, h => by
    obtain ⟨a, b⟩ := h p List.mem_cons_self
    show (p.1, W p.2 (X 0 p.2)) :: gnR X W (0 - X 0 p.2) t = p :: t
    rw [a, b, Int.sub_zero, gnR_z fun x hx => h x (List.mem_cons_of_mem _ hx)]
theorem gnR_end {X : Int → El → Int} {W : El → Int → El} : ∀ {L : ELs} {l : Int} {k : Nat}, gnL X l L k = 0 → (∀ p ∈ L, X 0 p.2 = 0 ∧ W p.2 0 = p.2) → mpK (gnR X W l L) L k = gnR X W l L
  | [], _, _, _, _ => by unfold mpK; rw [List.drop_nil]; exact List.append_nil _ |>.trans (by cases ‹Nat› <;> rfl)
  | p :: t, l, 0, h, hz => by
    have h : l = 0 := h
    subst h
    rw [gnR_z hz]
    rfl
  | p :: t, l, k + 1, h, hz => by
    have ih := gnR_end (L := t) (l := l - X l p.2) (k := k) (W := W) h fun x hx => hz x (List.mem_cons_of_mem _ hx)
    unfold mpK at ih ⊢
    show (p.1, W p.2 (X l p.2)) :: (List.take k (gnR X W (l - X l p.2) t) ++ List.drop k t) = _ :: _
    rw [ih]
def tkX (s l : Int) (e : El) : Int := if e.1 = s ∧ e.2.2.2.2 = 0 then (if e.2.1 < l then e.2.1 else l) else 0
def tkW (e : El) (x : Int) : El := (e.1, e.2.1 - x, e.2.2.1, e.2.2.2.1, e.2.2.2.2)
theorem tk_z {s : Int} {L : ELs} (h : ∀ p ∈ L, okE p.2) : ∀ p ∈ L, tkX s 0 p.2 = 0 ∧ tkW p.2 0 = p.2 := fun p hp => by
  have := (h p hp).2.1
  refine ⟨?_, ?_⟩
  · unfold tkX
    split
    · rw [if_neg (by omega)]
    · rfl
  · unfold tkW
    rw [Int.sub_zero]
theorem tkX_b {s l : Int} {e : El} (hl : 0 ≤ l) (h : okE e) : 0 ≤ tkX s l e ∧ tkX s l e ≤ l ∧ tkX s l e ≤ e.2.1 := by
  have := h.2.1
  unfold tkX
  split
  · split <;> omega
  · omega
def pkX (a b c l : Int) (e : El) : Int := if 3 ≤ e.2.2.2.2 ∧ e.1 = a ∧ e.2.1 = b ∧ e.2.2.1 = c then (if e.2.2.2.1 < l then e.2.2.2.1 else l) else 0
def pkW (e : El) (x : Int) : El := (e.1, e.2.1, e.2.2.1, e.2.2.2.1 - x, e.2.2.2.2)
def nzP (p : Nat × El) : Bool := decide (p.2.2.2.2.1 ≠ 0)
theorem nzP_t {p : Nat × El} (h : ¬ p.2.2.2.2.1 = 0) : nzP p = true := decide_eq_true h
theorem nzP_f {p : Nat × El} (h : p.2.2.2.2.1 = 0) : ¬ nzP p = true := fun hh => of_decide_eq_true hh h
theorem pkX_b {a b c l : Int} {e : El} (hl : 0 ≤ l) (h : 0 ≤ e.2.2.2.1) : 0 ≤ pkX a b c l e ∧ pkX a b c l e ≤ l ∧ pkX a b c l e ≤ e.2.2.2.1 := by
  unfold pkX
  split
  · split <;> omega
  · omega
theorem pk_z {a b c : Int} {L : ELs} (h : ∀ p ∈ L, 0 ≤ p.2.2.2.2.1) : ∀ p ∈ L, pkX a b c 0 p.2 = 0 ∧ pkW p.2 0 = p.2 := fun p hp => by
  have := h p hp
  refine ⟨?_, ?_⟩
  · unfold pkX
    split
    · rw [if_neg (by omega)]
    · rfl
  · unfold pkW
    rw [Int.sub_zero]
theorem pkX_P {a b c l : Int} {e : El} : pkX a b c l e = packX a b c l e := by
  unfold pkX packX
  by_cases h : 3 ≤ e.2.2.2.2 ∧ e.1 = a ∧ e.2.1 = b ∧ e.2.2.1 = c
  · rw [if_pos h, show (if e.1 = a ∧ e.2.1 = b ∧ e.2.2.1 = c ∧ 3 ≤ e.2.2.2.2 then min l e.2.2.2.1 else 0) = min l e.2.2.2.1 from if_pos ⟨h.2.1, h.2.2.1, h.2.2.2, h.1⟩]
    split <;> omega
  · rw [if_neg h, if_neg fun hh => h ⟨hh.2.2.2, hh.1, hh.2.1, hh.2.2.1⟩]
theorem pk_L {a b c : Int} : ∀ {L : ELs} {l : Int}, 0 ≤ l → (∀ p ∈ L, 1 ≤ p.2.2.2.2.1) → ((gnR (pkX a b c) pkW l L).filter nzP).map Prod.snd = packL a b c l (L.map Prod.snd) ∧ ∀ p ∈ (gnR (pkX a b c) pkW l L).filter nzP, 1 ≤ p.2.2.2.2.1
  | [], _, _, _ => ⟨rfl, fun _ h => nomatch h⟩
  | p :: t, l, hl, h => by
    have h1 := h p List.mem_cons_self
    obtain ⟨b1, b2, b3⟩ := pkX_b (a := a) (b := b) (c := c) hl (by omega : 0 ≤ p.2.2.2.2.1)
    obtain ⟨ih, ih2⟩ := pk_L (L := t) (l := l - pkX a b c l p.2) (by omega) fun x hx => h x (List.mem_cons_of_mem _ hx)
    have e0 : gnR (pkX a b c) pkW l (p :: t) = (p.1, pkW p.2 (pkX a b c l p.2)) :: gnR (pkX a b c) pkW (l - pkX a b c l p.2) t := rfl
    rw [e0, List.map_cons]
    by_cases hz : p.2.2.2.2.1 - pkX a b c l p.2 = 0
    · rw [List.filter_cons_of_neg (nzP_f hz), packL_c, if_neg (by omega), if_pos (by rw [← pkX_P]; exact hz), ← pkX_P]
      exact ⟨ih, ih2⟩
    · rw [List.filter_cons_of_pos (nzP_t hz)]
      refine ⟨?_, fun x hx => (List.mem_cons.mp hx).elim (fun hh => by rw [hh]; show 1 ≤ p.2.2.2.2.1 - pkX a b c l p.2; omega) (ih2 x)⟩
      rw [List.map_cons, packL_c]
      by_cases h0 : l ≤ 0
      · rw [if_pos h0]
        obtain rfl : l = 0 := by omega
        have x0 := pk_z (a := a) (b := b) (c := c) (L := p :: t) (fun x hx => by have := h x hx; omega) p List.mem_cons_self
        rw [ih, x0.1, Int.sub_zero, x0.2, packL_0 (Int.le_refl _)]
      · rw [if_neg h0, if_neg (by rw [← pkX_P]; exact hz), ih, ← pkX_P]
        rfl
theorem packL_u {a b c : Int} : ∀ {bs : List Pl} {l : Int}, 0 ≤ l → (∀ q ∈ bs, 0 ≤ q.2.2.2.1) → 0 ≤ dryL a b c bs ∧ (l ≤ dryL a b c bs → lsum (fun p : Pl => p.2.2.2.1 * mZ p.2.1) (packL a b c l bs) = lsum (fun p : Pl => p.2.2.2.1 * mZ p.2.1) bs - l * mZ b)
  | [], l, hl, _ => ⟨Int.le_refl _, fun hd => by
    have hd : l ≤ 0 := hd
    obtain rfl : l = 0 := by omega
    rw [Int.zero_mul]
    rfl⟩
  | q :: t, l, hl, h => by
    have hq := h q List.mem_cons_self
    have e0 : dryL a b c (q :: t) = dryX a b c q + dryL a b c t := rfl
    have hx : 0 ≤ dryX a b c q ∧ packX a b c l q = min l (dryX a b c q) := by
      unfold dryX packX
      split <;> omega
    have i0 := (packL_u (a := a) (b := b) (c := c) (bs := t) (l := 0) (Int.le_refl _) fun x hx => h x (List.mem_cons_of_mem _ hx)).1
    refine ⟨by rw [e0]; omega, fun hd => ?_⟩
    rw [e0] at hd
    by_cases h0 : l ≤ 0
    · obtain rfl : l = 0 := by omega
      rw [packL_0 (Int.le_refl _), Int.zero_mul, Int.sub_zero]
    · have ih := (packL_u (a := a) (b := b) (c := c) (bs := t) (l := l - packX a b c l q) (by omega) fun x hx => h x (List.mem_cons_of_mem _ hx)).2 (by omega)
      have hs : packX a b c l q * mZ q.2.1 = packX a b c l q * mZ b := by
        by_cases hc : q.1 = a ∧ q.2.1 = b ∧ q.2.2.1 = c ∧ 3 ≤ q.2.2.2.2
        · rw [hc.2.1]
        · rw [show packX a b c l q = 0 from if_neg hc, Int.zero_mul, Int.zero_mul]
      have e1 : lsum (fun p : Pl => p.2.2.2.1 * mZ p.2.1) (q :: t) = q.2.2.2.1 * mZ q.2.1 + lsum (fun p : Pl => p.2.2.2.1 * mZ p.2.1) t := rfl
      rw [Int.sub_mul] at ih
      rw [packL_c, if_neg h0, e1]
      split
      · rename_i hz
        have e2 : q.2.2.2.1 = packX a b c l q := by omega
        rw [ih, e2]
        omega
      · have e3 : ∀ X : List Pl, lsum (fun p : Pl => p.2.2.2.1 * mZ p.2.1) ((q.1, q.2.1, q.2.2.1, q.2.2.2.1 - packX a b c l q, q.2.2.2.2) :: X) = (q.2.2.2.1 - packX a b c l q) * mZ q.2.1 + lsum (fun p : Pl => p.2.2.2.1 * mZ p.2.1) X := fun _ => rfl
        rw [e3, ih, Int.sub_mul]
        omega
theorem tkR_ok {s : Int} : ∀ {L : ELs} {l : Int}, 0 ≤ l → (∀ p ∈ L, okE p.2) → ∀ p ∈ gnR (tkX s) tkW l L, okE p.2
  | [], _, _, _, _, h => nomatch h
  | x :: t, l, hl, hE, p, h => by
    have hx := hE x List.mem_cons_self
    have hb := tkX_b (s := s) hl hx
    rcases List.mem_cons.mp (show p ∈ (x.1, tkW x.2 (tkX s l x.2)) :: gnR (tkX s) tkW (l - tkX s l x.2) t from h) with e | e
    · rw [e]
      obtain ⟨a, b, c⟩ := hx
      refine ⟨a, ?_, c⟩
      show 0 ≤ x.2.2.1 - tkX s l x.2 ∧ x.2.2.1 - tkX s l x.2 ≤ 300
      omega
    · exact tkR_ok (by omega) (fun y hy => hE y (List.mem_cons_of_mem _ hy)) p e
theorem tkR_r {s l : Int} {L : ELs} (hE : ∀ p ∈ L, okE p.2) (hl : 0 ≤ l) : ∀ p ∈ gnR (tkX s) tkW l L, rng p.2.2.1 := fun p hp => by
  have := (tkR_ok hl hE p hp).2.1
  unfold rng
  omega
theorem Y_X2_take : zYV yX2_take cX2_take 7 none 2 := ⟨⟨q1295, qs25, q113, q1296⟩, by decide +kernel, by decide⟩
set_option maxRecDepth 100000 in
theorem c_X2_take (l : Launch) (g : zG) (h : GH) (sh : Sh) (f : Int → Int) (rc : Nat) (Ls : Nat → ELs) (w : rW g.2.2 h sh (f, rc, Ls)) (s n : Int) (hl : (Ls 1).length ≤ 24) (hE : ∀ p ∈ Ls 1, okE p.2) (hs : 0 ≤ s ∧ s ≤ 3) (hn : 0 ≤ n ∧ n ≤ 1000) : zMet l yX2_take cX2_take 7 none 7 0 0 [vR sh.1, vI s, vI n] g h (fun v h' => v = none ∧ rX g.2.2 h (fpS sh (f, rc, Ls)) sh (f, rc, lup Ls 1 ((gnR (tkX s) tkW n (Ls 1)).filter nzB)) h') := by
  refine zMet.mk (L0 := [some (vR sh.1), some (vI s), some (vI n), none, none, none, none]) (by decide) rfl (Nat.le_of_ble_eq_true rfl) rfl (fun C hg hl hnm X => ?_)
  subst hg hl
  have hX := w.start
  refine z_iload_n (pc' := 1) X dX2_take_0 rfl rfl ?_
  refine z_istore_n (pc' := 2) X dX2_take_1 rfl (by decide) rfl ?_
  dsimp only [List.set]
  refine z_iconst (pc' := 3) X dX2_take_2 rfl ?_
  refine z_istore (pc' := 5) X dX2_take_3 rfl (by decide) rfl ?_
  dsimp only [List.set]
  have loop5 : ∀ (N : Nat) (l k : Int) (h5l : GH), (0 ≤ k ∧ k ≤ ((Ls 1).length : Int)) → (rX (zg C).2.2 h (fpS sh (f, rc, Ls)) sh (f, rc, lup Ls 1 (mpK (gnR (tkX s) tkW n (Ls 1)) (Ls 1) k.toNat)) h5l) → (l = gnL (tkX s) n (Ls 1) k.toNat) → (0 ≤ l) → (l ≤ n) → (((Ls 1).length : Int) - k).toNat < N → ZP C 7 (zAt h5l) (0) (0) [some (vR sh.1), some (vI s), some (vI n), some (vI l), some (vI k), none, none] 5 [] := by
    intro N
    induction N with
    | zero => intro l k h5l hb hXl hl9 hl0 hl1 hN; exact absurd hN (Nat.not_lt_zero _)
    | succ N ih5 =>
      intro l k h5l hb hXl hl9 hl0 hl1 hN
      have hml : (mpK (gnR (tkX s) tkW n (Ls 1)) (Ls 1) k.toNat).length = (Ls 1).length := mpK_len gnR_len
      refine z_iload (pc' := 7) X dX2_take_5 rfl rfl ?_
      refine z_aload_n (pc' := 8) X dX2_take_7 rfl rfl ?_
      refine z_get1 (pc' := 11) (kf := 12) X in_X2 rfl (by decide) q236 (Or.inl rfl) hXl.stA rfl dX2_take_8 rfl ?_
      refine z_rsize (pc' := 16) X q547 hXl (i := 1) (by decide) dX2_take_11 rfl (by decide) (Nat.le_of_ble_eq_true rfl) (Nat.le_of_ble_eq_true rfl) (Nat.le_of_ble_eq_true rfl) ?_
      rw [lup_s]
      refine z_icmp_ge (tgt := 99) (pc' := 19) X (by first | assumption | omega) (by first | assumption | omega) dX2_take_16 rfl (by decide) (fun c16 => ?_) (fun c16 => ?_)
      · have hX99 : rX (zg C).2.2 h (fpS sh (f, rc, Ls)) sh (f, rc, (lup Ls 1 ((gnR (tkX s) tkW n (Ls 1))))) h5l := by have t := hXl; rw [mpK_end gnR_len (by omega)] at t; exact t
        refine z_aload_n (pc' := 100) X dX2_take_99 rfl rfl ?_
        refine z_callV1 (pc' := 103) X Y_X2_dropEmptyBales q728 dX2_take_100 rfl (Nat.le_of_ble_eq_true rfl) (Nat.le_of_ble_eq_true rfl) (Nat.le_of_ble_eq_true rfl) rfl rfl (Nat.le_of_ble_eq_true rfl) rfl ⟨_, hX99.stA⟩ (c_X2_dropEmptyBales _ _ _ sh (f) rc ((lup Ls 1 ((gnR (tkX s) tkW n (Ls 1))))) hX99.1 (by show (gnR (tkX s) tkW n (Ls 1)).length ≤ 24; rw [gnR_len]; exact hl) (by exact tkR_r hE hn.1)) (fun v1 h1 p1 => ?_)
        obtain ⟨ev1, p1⟩ := p1
        subst ev1
        dsimp only [zst]
        have hX1 : rX (zg C).2.2 h (fpS sh (f, rc, Ls)) sh (f, rc, (lup Ls 1 ((((gnR (tkX s) tkW n (Ls 1))).filter nzB)))) h1 := by have t := hX99.comp p1; rw [lup_lup] at t; exact t
        refine z_ret1 X dX2_take_103 (Nat.le_of_ble_eq_true rfl) (Nat.le_of_ble_eq_true rfl) ?_
        exact ⟨rfl, hX1⟩
      · refine z_iload_n (pc' := 20) X dX2_take_19 rfl rfl ?_
        refine z_if_le (tgt := 99) (pc' := 23) X (by first | assumption | omega) dX2_take_20 rfl (by decide) (fun c20 => ?_) (fun c20 => ?_)
        · have hX99 : rX (zg C).2.2 h (fpS sh (f, rc, Ls)) sh (f, rc, (lup Ls 1 ((gnR (tkX s) tkW n (Ls 1))))) h5l := by have t := hXl; rw [gnR_end (by omega) (tk_z hE)] at t; exact t
          refine z_aload_n (pc' := 100) X dX2_take_99 rfl rfl ?_
          refine z_callV1 (pc' := 103) X Y_X2_dropEmptyBales q728 dX2_take_100 rfl (Nat.le_of_ble_eq_true rfl) (Nat.le_of_ble_eq_true rfl) (Nat.le_of_ble_eq_true rfl) rfl rfl (Nat.le_of_ble_eq_true rfl) rfl ⟨_, hX99.stA⟩ (c_X2_dropEmptyBales _ _ _ sh (f) rc ((lup Ls 1 ((gnR (tkX s) tkW n (Ls 1))))) hX99.1 (by show (gnR (tkX s) tkW n (Ls 1)).length ≤ 24; rw [gnR_len]; exact hl) (by exact tkR_r hE hn.1)) (fun v2 h2 p2 => ?_)
          obtain ⟨ev2, p2⟩ := p2
          subst ev2
          dsimp only [zst]
          have hX2 : rX (zg C).2.2 h (fpS sh (f, rc, Ls)) sh (f, rc, (lup Ls 1 ((((gnR (tkX s) tkW n (Ls 1))).filter nzB)))) h2 := by have t := hX99.comp p2; rw [lup_lup] at t; exact t
          refine z_ret1 X dX2_take_103 (Nat.le_of_ble_eq_true rfl) (Nat.le_of_ble_eq_true rfl) ?_
          exact ⟨rfl, hX2⟩
        · refine z_aload_n (pc' := 24) X dX2_take_23 rfl rfl ?_
          refine z_get1 (pc' := 27) (kf := 12) X in_X2 rfl (by decide) q236 (Or.inl rfl) hXl.stA rfl dX2_take_24 rfl ?_
          refine z_iload (pc' := 29) X dX2_take_27 rfl rfl ?_
          obtain ⟨q3, e3, hk3⟩ := ELs.at (ps := (mpK (gnR (tkX s) tkW n (Ls 1)) (Ls 1) k.toNat)) (k := k) (by first | assumption | omega)
          have hL : (Ls 1)[k.toNat]? = some (q3, e3) := (mpK_at gnR_len (by omega)).symm.trans hk3
          have hT := gnR_at (X := tkX s) (W := tkW) (l := n) hb.1 hL
          obtain ⟨o1, o2, o3, o4, o5⟩ : okE e3 := hE _ (List.mem_of_getElem? hL)
          have hxb := tkX_b (s := s) hl0 (hE _ (List.mem_of_getElem? hL))
          refine z_rget (pc' := 34) X q549 hXl (i := 1) (by decide) (j := k) hk3 (by first | assumption | omega) dX2_take_29 rfl (by decide) (Nat.le_of_ble_eq_true rfl) (Nat.le_of_ble_eq_true rfl) (Nat.le_of_ble_eq_true rfl) (by show ((mpK (gnR (tkX s) tkW n (Ls 1)) (Ls 1) k.toNat)).length ≤ 1000; omega) ?_
          refine z_castS1 (pc' := 37) X (ci := 7) q567 rfl ⟨_, (hXl.el1 hk3)⟩ dX2_take_34 rfl ?_
          refine z_astore (pc' := 39) X dX2_take_37 rfl (by decide) rfl ?_
          dsimp only [List.set]
          refine z_aload (pc' := 41) X dX2_take_39 rfl rfl ?_
          refine z_get1 (pc' := 44) (kf := 0) X in_X9 rfl (by decide) q636 (Or.inl rfl) (hXl.el1 hk3) rfl dX2_take_41 rfl ?_
          refine z_iload_n (pc' := 45) X dX2_take_44 rfl rfl ?_
          refine z_icmp_ne (tgt := 93) (pc' := 48) X (by first | assumption | omega) (by first | assumption | omega) dX2_take_45 rfl (by decide) (fun c45 => ?_) (fun c45 => ?_)
          · refine z_iinc (pc' := 96) X dX2_take_93 rfl (by decide) rfl rfl ?_
            dsimp only [List.set]
            refine z_goto (tgt := 5) X dX2_take_96 (by decide) ?_
            refine ZP.wk (L' := [some (vR sh.1), some (vI s), some (vI n), some (vI _), some (vI _), none, none]) (And.intro rfl (And.intro rfl (And.intro rfl (And.intro rfl (And.intro rfl (trivial)))))) ?_
            exact ZP.mono (Nat.le_of_ble_eq_true rfl) (Nat.le_of_ble_eq_true rfl) (ih5 _ _  h5l (by omega) (by rw [← mpK_same gnR_len hb.1 (hT.1.trans (by show some (_, tkW _ (tkX s _ _)) = _; rw [show tkX s _ _ = 0 from if_neg (fun hh => c45 hh.1)]; unfold tkW; rw [Int.sub_zero])) hL]; exact hXl) (by rw [hT.2, ← hl9, show tkX s l _ = 0 from if_neg (fun hh => c45 hh.1)]; omega) (by omega) (by omega) (by omega))
          · refine z_aload (pc' := 50) X dX2_take_48 rfl rfl ?_
            refine z_get1 (pc' := 53) (kf := 4) X in_X9 rfl (by decide) q648 (Or.inl rfl) (hXl.el1 hk3) rfl dX2_take_50 rfl ?_
            refine z_if_ne (tgt := 93) (pc' := 56) X (by first | assumption | omega) dX2_take_53 rfl (by decide) (fun c53 => ?_) (fun c53 => ?_)
            · refine z_iinc (pc' := 96) X dX2_take_93 rfl (by decide) rfl rfl ?_
              dsimp only [List.set]
              refine z_goto (tgt := 5) X dX2_take_96 (by decide) ?_
              refine ZP.wk (L' := [some (vR sh.1), some (vI s), some (vI n), some (vI _), some (vI _), none, none]) (And.intro rfl (And.intro rfl (And.intro rfl (And.intro rfl (And.intro rfl (trivial)))))) ?_
              exact ZP.mono (Nat.le_of_ble_eq_true rfl) (Nat.le_of_ble_eq_true rfl) (ih5 _ _  h5l (by omega) (by rw [← mpK_same gnR_len hb.1 (hT.1.trans (by show some (_, tkW _ (tkX s _ _)) = _; rw [show tkX s _ _ = 0 from if_neg (fun hh => c53 hh.2)]; unfold tkW; rw [Int.sub_zero])) hL]; exact hXl) (by rw [hT.2, ← hl9, show tkX s l _ = 0 from if_neg (fun hh => c53 hh.2)]; omega) (by omega) (by omega) (by omega))
            · refine z_aload (pc' := 58) X dX2_take_56 rfl rfl ?_
              refine z_get1 (pc' := 61) (kf := 1) X in_X9 rfl (by decide) q639 (Or.inl rfl) (hXl.el1 hk3) rfl dX2_take_58 rfl ?_
              refine z_iload_n (pc' := 62) X dX2_take_61 rfl rfl ?_
              refine z_icmp_ge (tgt := 73) (pc' := 65) X (by first | assumption | omega) (by first | assumption | omega) dX2_take_62 rfl (by decide) (fun c62 => ?_) (fun c62 => ?_)
              · refine z_iload_n (pc' := 74) X dX2_take_73 rfl rfl ?_
                refine z_istore (pc' := 76) X dX2_take_74 rfl (by decide) rfl ?_
                dsimp only [List.set]
                refine z_aload (pc' := 78) X dX2_take_76 rfl rfl ?_
                refine z_dup (pc' := 79) X rfl dX2_take_78 rfl ?_
                refine z_get1 (pc' := 82) (kf := 1) X in_X9 rfl (by decide) q639 (Or.inl rfl) (hXl.el1 hk3) rfl dX2_take_79 rfl ?_
                refine z_iload (pc' := 84) X dX2_take_82 rfl rfl ?_
                refine z_isub (pc' := 85) X dX2_take_84 rfl ?_
                refine z_put1 (pc' := 88) (kf := 1) X in_X9 tyX9 tyX9_ok nmX9 rfl (by decide) q639 (Or.inl rfl) rfl rfl rfl (Nat.le_of_ble_eq_true rfl) (hXl.el1 hk3) dX2_take_85 rfl (fun h4 e4 => ?_)
                have hX4 : rX (zg C).2.2 h (fpS sh (f, rc, Ls)) sh (f, rc, (lup Ls 1 (((mpK (gnR (tkX s) tkW n (Ls 1)) (Ls 1) k.toNat)).set (k).toNat (q3, (e3.1, (e3.2.1 - l), e3.2.2.1, e3.2.2.2.1, e3.2.2.2.2))))) h4 := by rw [e4]; have t := hXl.elem (i := 1) (e' := (e3.1, (e3.2.1 - l), e3.2.2.1, e3.2.2.2.1, e3.2.2.2.2)) (by decide) hk3 rfl; rw [lup_lup] at t; exact t
                have hk4 : (((mpK (gnR (tkX s) tkW n (Ls 1)) (Ls 1) k.toNat)).set (k).toNat (q3, (e3.1, (e3.2.1 - l), e3.2.2.1, e3.2.2.2.1, e3.2.2.2.2)))[(k).toNat]? = some (q3, (e3.1, (e3.2.1 - l), e3.2.2.1, e3.2.2.2.1, e3.2.2.2.2)) := set_at hk3
                refine z_iload_n (pc' := 89) X dX2_take_88 rfl rfl ?_
                refine z_iload (pc' := 91) X dX2_take_89 rfl rfl ?_
                refine z_isub (pc' := 92) X dX2_take_91 rfl ?_
                refine z_istore_n (pc' := 93) X dX2_take_92 rfl (by decide) rfl ?_
                dsimp only [List.set]
                refine z_iinc (pc' := 96) X dX2_take_93 rfl (by decide) rfl rfl ?_
                dsimp only [List.set]
                refine z_goto (tgt := 5) X dX2_take_96 (by decide) ?_
                refine ZP.wk (L' := [some (vR sh.1), some (vI s), some (vI n), some (vI _), some (vI _), none, none]) (And.intro rfl (And.intro rfl (And.intro rfl (And.intro rfl (And.intro rfl (trivial)))))) ?_
                exact ZP.mono (Nat.le_of_ble_eq_true rfl) (Nat.le_of_ble_eq_true rfl) (ih5 _ _  h4 (by omega) (by rw [← mpK_set gnR_len hb.1 (hT.1.trans (by rw [← hl9, show tkX s l _ = _ from (if_pos ⟨c45, c53⟩).trans (if_neg (Int.not_lt.mpr c62))]; try rfl))]; exact hX4) (by rw [hT.2, ← hl9, show tkX s l _ = _ from (if_pos ⟨c45, c53⟩).trans (if_neg (Int.not_lt.mpr c62))]) (by omega) (by omega) (by omega))
              · refine z_aload (pc' := 67) X dX2_take_65 rfl rfl ?_
                refine z_get1 (pc' := 70) (kf := 1) X in_X9 rfl (by decide) q639 (Or.inl rfl) (hXl.el1 hk3) rfl dX2_take_67 rfl ?_
                refine z_goto (tgt := 74) X dX2_take_70 (by decide) ?_
                refine z_istore (pc' := 76) X dX2_take_74 rfl (by decide) rfl ?_
                dsimp only [List.set]
                refine z_aload (pc' := 78) X dX2_take_76 rfl rfl ?_
                refine z_dup (pc' := 79) X rfl dX2_take_78 rfl ?_
                refine z_get1 (pc' := 82) (kf := 1) X in_X9 rfl (by decide) q639 (Or.inl rfl) (hXl.el1 hk3) rfl dX2_take_79 rfl ?_
                refine z_iload (pc' := 84) X dX2_take_82 rfl rfl ?_
                refine z_isub (pc' := 85) X dX2_take_84 rfl ?_
                refine z_put1 (pc' := 88) (kf := 1) X in_X9 tyX9 tyX9_ok nmX9 rfl (by decide) q639 (Or.inl rfl) rfl rfl rfl (Nat.le_of_ble_eq_true rfl) (hXl.el1 hk3) dX2_take_85 rfl (fun h5 e5 => ?_)
                have hX5 : rX (zg C).2.2 h (fpS sh (f, rc, Ls)) sh (f, rc, (lup Ls 1 (((mpK (gnR (tkX s) tkW n (Ls 1)) (Ls 1) k.toNat)).set (k).toNat (q3, (e3.1, (e3.2.1 - e3.2.1), e3.2.2.1, e3.2.2.2.1, e3.2.2.2.2))))) h5 := by rw [e5]; have t := hXl.elem (i := 1) (e' := (e3.1, (e3.2.1 - e3.2.1), e3.2.2.1, e3.2.2.2.1, e3.2.2.2.2)) (by decide) hk3 rfl; rw [lup_lup] at t; exact t
                have hk5 : (((mpK (gnR (tkX s) tkW n (Ls 1)) (Ls 1) k.toNat)).set (k).toNat (q3, (e3.1, (e3.2.1 - e3.2.1), e3.2.2.1, e3.2.2.2.1, e3.2.2.2.2)))[(k).toNat]? = some (q3, (e3.1, (e3.2.1 - e3.2.1), e3.2.2.1, e3.2.2.2.1, e3.2.2.2.2)) := set_at hk3
                refine z_iload_n (pc' := 89) X dX2_take_88 rfl rfl ?_
                refine z_iload (pc' := 91) X dX2_take_89 rfl rfl ?_
                refine z_isub (pc' := 92) X dX2_take_91 rfl ?_
                refine z_istore_n (pc' := 93) X dX2_take_92 rfl (by decide) rfl ?_
                dsimp only [List.set]
                refine z_iinc (pc' := 96) X dX2_take_93 rfl (by decide) rfl rfl ?_
                dsimp only [List.set]
                refine z_goto (tgt := 5) X dX2_take_96 (by decide) ?_
                refine ZP.wk (L' := [some (vR sh.1), some (vI s), some (vI n), some (vI _), some (vI _), none, none]) (And.intro rfl (And.intro rfl (And.intro rfl (And.intro rfl (And.intro rfl (trivial)))))) ?_
                exact ZP.mono (Nat.le_of_ble_eq_true rfl) (Nat.le_of_ble_eq_true rfl) (ih5 _ _  h5 (by omega) (by rw [← mpK_set gnR_len hb.1 (hT.1.trans (by rw [← hl9, show tkX s l _ = _ from (if_pos ⟨c45, c53⟩).trans (if_pos c62)]; try rfl))]; exact hX5) (by rw [hT.2, ← hl9, show tkX s l _ = _ from (if_pos ⟨c45, c53⟩).trans (if_pos c62)]) (by omega) (by omega) (by omega))
  refine ZP.wk (L' := [some (vR sh.1), some (vI s), some (vI n), some (vI _), some (vI _), none, none]) (And.intro rfl (And.intro rfl (And.intro rfl (And.intro rfl (And.intro rfl (trivial)))))) ?_
  exact ZP.mono (Nat.le_of_ble_eq_true rfl) (Nat.le_of_ble_eq_true rfl) (loop5 _ _ _  h (by omega) (by rw [show lup Ls 1 (mpK (gnR (tkX s) tkW n (Ls 1)) (Ls 1) (Int.toNat 0)) = Ls from lup_self]; exact hX) gnL_0.symm hn.1 (Int.le_refl _) (Nat.lt_succ_self _))
end ZS7
