/-! THE REAL MILL's STATE over ghost heaps -/
section RREP
/-- an element of a list: its fields as ints, five at most -/
abbrev El : Type := Int × Int × Int × Int × Int
abbrev ELs : Type := List (Nat × El)
/-- the shape: address of the State, of its six lists, of their arrays (none: the shared empty one) -/
abbrev Sh : Type := Nat × (Nat → Nat) × (Nat → Option Nat)
/-- a real mill: numbers, the recipe's address, six lists (carters, bales, vats, moulds, piles, reams) -/
abbrev RS : Type := (Int → Int) × Nat × (Nat → ELs)
def cellE (b : Nat → Nat) (i : Nat) (e : El) : zE := match i with
  | 0 => zO 3 [vI e.1, vI e.2.1]
  | 1 => zO 7 [vI e.1, vI e.2.1, vI e.2.2.1, vI e.2.2.2.1, vI e.2.2.2.2]
  | 2 => zO 4 [vI e.1, vI e.2.1, vI e.2.2.1]
  | 3 => zO 5 [vR (b e.1.toNat), vI e.2.1, vI e.2.2.1, vI e.2.2.2.1]
  | 4 => zO 8 [vI e.1, vR (b e.2.1.toNat), vR (b (3 + e.2.2.1.toNat)), vI e.2.2.2.1, vI e.2.2.2.2]
  | _ => zO 9 [vR (b e.1.toNat), vR (b (3 + e.2.1.toNat)), vI e.2.2.1]
def clsE : Nat → Nat := fun i => match i with
  | 0 => 3
  | 1 => 7
  | 2 => 4
  | 3 => 5
  | 4 => 8
  | _ => 9
theorem cellE_cls {b : Nat → Nat} {i : Nat} {e : El} : ∃ fs, cellE b i e = zO (clsE i) fs := by
  unfold cellE clsE
  split <;> exact ⟨_, rfl⟩
def stF (sh : Sh) (f : Int → Int) (rc : Nat) : List Value := [vI (f 0), vI (f 1), vI (f 3), vI (f 2), vR rc, vI (f 201), vI (f 202), vI (f 203), vI (f 204), vI (f 7), vI (f 205), vR (sh.2.1 0), vR (sh.2.1 1), vR (sh.2.1 2), vR (sh.2.1 3), vR (sh.2.1 4), vR (sh.2.1 5)]
/-- an ArrayList at l with its array ar holds the addresses xs -/
def alA (b : Nat → Nat) (h : GH) (l : Nat) (ar : Option Nat) (xs : List Nat) : Prop :=
  (∃ m : Int, h l = some (zO 13 [vI m, vR (ar.getD (b 6)), vI (xs.length : Int)])) ∧
  (ar = none → xs = []) ∧ ∀ a, ar = some a → ∃ cap f, h a = some (zAq 14 cap f) ∧ (1 ≤ cap ∧ xs.length ≤ cap ∧ cap ≤ 60) ∧ ∀ k, k < cap → f k = xs[k]?
/-- a recipe's tree at q, of height under n: the parts of the sorts, the depth -/
def mxA (h : GH) : Nat → Nat → (Int → Int) → Int → Prop
  | 0, _, _, _ => False
  | n + 1, q, p, d =>
    (∃ s k : Int, h q = some (zO 2 [vI s, vI k]) ∧ (0 ≤ s ∧ s < 4) ∧ (∀ j, 0 ≤ j → j < 4 → p j = if s = j then k else 0) ∧ d = 0) ∨
    (∃ (x y : Nat) (p1 p2 : Int → Int) (d1 d2 : Int), h q = some (zO 12 [vR x, vR y]) ∧ mxA h n x p1 d1 ∧ mxA h n y p2 d2 ∧ (∀ j, 0 ≤ j → j < 4 → p j = p1 j + p2 j) ∧ d = if d2 < d1 then d1 else d2) ∨
    (∃ (x : Nat) (t : Int) (p1 : Int → Int) (d1 : Int), h q = some (zO 11 [vR x, vI t]) ∧ mxA h n x p1 d1 ∧ (∀ j, 0 ≤ j → j < 4 → p j = t * p1 j) ∧ d = 1 + d1)
theorem mxA.keep {h h' : GH} (hk : ∀ q ci fs, (ci = 2 ∨ ci = 11 ∨ ci = 12) → h q = some (zO ci fs) → h' q = some (zO ci fs)) : ∀ {n q : Nat} {p : Int → Int} {d : Int}, mxA h n q p d → mxA h' n q p d
  | 0, _, _, _, a => a
  | n + 1, q, p, d, a => by
    rcases a with ⟨s, k, e, r⟩ | ⟨x, y, p1, p2, d1, d2, e, a1, a2, r⟩ | ⟨x, t, p1, d1, e, a1, r⟩
    · exact Or.inl ⟨s, k, hk _ _ _ (Or.inl rfl) e, r⟩
    · exact Or.inr (Or.inl ⟨x, y, p1, p2, d1, d2, hk _ _ _ (Or.inr (Or.inr rfl)) e, mxA.keep hk a1, mxA.keep hk a2, r⟩)
    · exact Or.inr (Or.inr ⟨x, t, p1, d1, hk _ _ _ (Or.inr (Or.inl rfl)) e, mxA.keep hk a1, r⟩)
/-- what own cells are like -/
def mutE (e : zE) : Prop := (∃ ci fs, e = zO ci fs ∧ (ci = 1 ∨ ci = 13 ∨ ci = 3 ∨ ci = 7 ∨ ci = 4 ∨ ci = 5 ∨ ci = 8)) ∨ ∃ n f, e = zAq 14 n f
theorem mutE_no {ci : Nat} {fs : List Value} (hc : ci = 2 ∨ ci = 9 ∨ ci = 11 ∨ ci = 12) : ¬ mutE (zO ci fs) := by
  rintro (⟨cj, fs', h, hj⟩ | ⟨n, f, h⟩)
  · have h : zO ci fs = zO cj fs' := h
    have : ci = cj := by cases h; rfl
    omega
  · have h : zO ci fs = zAq 14 n f := h
    cases h
theorem mxA.setM {h : GH} {n r q : Nat} {p : Int → Int} {d : Int} {e c : zE} (a : mxA h n r p d) (hq : h q = some e) (hm : mutE e) : mxA (hset h q c) n r p d :=
  a.keep fun x ci fs hc hx => by
    have hne : x ≠ q := fun hh => by
      rw [hh, hq] at hx
      cases hx
      exact mutE_no (by omega) hm
    rw [hset_n hne]
    exact hx
def lup (L : Nat → ELs) (i : Nat) (ps : ELs) : Nat → ELs := fun j => if j = i then ps else L j
def adr (ps : ELs) : List Nat := ps.map Prod.fst
def rW (b : Nat → Nat) (h : GH) (sh : Sh) (R : RS) : Prop :=
  h sh.1 = some (zO 1 (stF sh R.1 R.2.1)) ∧
  (∀ i, i < 6 → alA b h (sh.2.1 i) (sh.2.2 i) (adr (R.2.2 i))) ∧
  (∀ i, i < 6 → ∀ q e, (q, e) ∈ R.2.2 i → h q = some (cellE b i e)) ∧
  (∀ i j, i < 6 → j < 6 → sh.2.1 i = sh.2.1 j → i = j) ∧
  (∀ i j a, i < 6 → j < 6 → sh.2.2 i = some a → sh.2.2 j = some a → i = j) ∧
  (∀ i, i < 5 → (adr (R.2.2 i)).Nodup) ∧
  mxA h 70 R.2.1 (fun j => R.1 (8 + j)) (R.1 12)
/-- its own cells -/
def fpS (sh : Sh) (R : RS) (q : Nat) : Prop := q = sh.1 ∨ (∃ i, i < 6 ∧ (q = sh.2.1 i ∨ sh.2.2 i = some q)) ∨ ∃ i, i < 5 ∧ ∃ e, (q, e) ∈ R.2.2 i
/-- the frame: every cell of h0 but F's stands, no cell is lost -/
def hF (h0 : GH) (F : Nat → Prop) (h : GH) : Prop := (∀ q, h q = none → h0 q = none) ∧ ∀ q e, h0 q = some e → ¬ F q → h q = some e
abbrev noF : Nat → Prop := fun _ => False
theorem hF.rf {h : GH} {F : Nat → Prop} : hF h F h := ⟨fun _ h => h, fun _ _ h _ => h⟩
theorem hF.trans {h0 h1 h2 : GH} {F F1 : Nat → Prop} (a : hF h0 F h1) (c : hF h1 F1 h2) (hf : ∀ q, F1 q → F q ∨ h0 q = none) : hF h0 F h2 :=
  ⟨fun q hq => a.1 q (c.1 q hq), fun q e he hn => c.2 q e (a.2 q e he hn) fun h1 => (hf q h1).elim hn fun h2 => by rw [he] at h2; cases h2⟩
theorem hF.wk {h0 h1 : GH} {F F1 : Nat → Prop} (a : hF h0 F1 h1) (hf : ∀ q, F1 q → F q ∨ h0 q = none) : hF h0 F h1 := hF.trans hF.rf a hf
theorem hF.set {h0 h : GH} {F : Nat → Prop} {q : Nat} {e : zE} (a : hF h0 F h) (hq : F q ∨ h0 q = none) : hF h0 F (hset h q e) := by
  refine ⟨fun x hx => ?_, fun x e' he hn => ?_⟩
  · by_cases hxq : x = q
    · subst hxq; rw [hset_s] at hx; cases hx
    · rw [hset_n hxq] at hx; exact a.1 x hx
  · have hxq : x ≠ q := fun h => by subst h; exact hq.elim hn fun h2 => by rw [he] at h2; cases h2
    rw [hset_n hxq]
    exact a.2 x e' he hn
theorem hF.new {h0 h : GH} {F : Nat → Prop} {q : Nat} {e : zE} (a : hF h0 F h) (hq : h q = none) : hF h0 F (hset h q e) := a.set (Or.inr (a.1 q hq))
/-- a real mill in a frame -/
def rX (b : Nat → Nat) (h0 : GH) (F : Nat → Prop) (sh : Sh) (R : RS) (h : GH) : Prop := rW b h sh R ∧ hF h0 F h ∧ ∀ q, fpS sh R q → F q ∨ h0 q = none
theorem rW.start {b : Nat → Nat} {h : GH} {sh : Sh} {R : RS} (w : rW b h sh R) : rX b h (fpS sh R) sh R h := ⟨w, hF.rf, fun _ h => Or.inl h⟩
theorem rX.comp {b : Nat → Nat} {h0 h1 h2 : GH} {F : Nat → Prop} {sh sh' : Sh} {R R' : RS} (a : rX b h0 F sh R h1) (c : rX b h1 (fpS sh R) sh' R' h2) : rX b h0 F sh' R' h2 :=
  ⟨c.1, a.2.1.trans c.2.1 a.2.2, fun q hq => (c.2.2 q hq).elim (a.2.2 q) fun h => Or.inr (a.2.1.1 q h)⟩
theorem alA.keep {b : Nat → Nat} {h h' : GH} {l : Nat} {ar : Option Nat} {xs : List Nat} (a : alA b h l ar xs) (hl : h' l = h l) (ha : ∀ q, ar = some q → h' q = h q) : alA b h' l ar xs := by
  obtain ⟨⟨m, h1⟩, h2, h3⟩ := a
  refine ⟨⟨m, by rw [hl]; exact h1⟩, h2, fun q hq => ?_⟩
  obtain ⟨cap, f, e1, e2⟩ := h3 q hq
  exact ⟨cap, f, by rw [ha q hq]; exact e1, e2⟩
theorem alA.le {b : Nat → Nat} {h h' : GH} {l : Nat} {ar : Option Nat} {xs : List Nat} {F : Nat → Prop} (a : alA b h l ar xs) (hf : hF h F h') (hl : ¬ F l) (ha : ∀ q, ar = some q → ¬ F q) : alA b h' l ar xs := by
  obtain ⟨⟨m, h1⟩, h2, h3⟩ := a
  refine ⟨⟨m, hf.2 _ _ h1 hl⟩, h2, fun q hq => ?_⟩
  obtain ⟨cap, f, e1, e2⟩ := h3 q hq
  exact ⟨cap, f, hf.2 _ _ e1 (ha q hq), e2⟩
theorem clsE_5 {i : Nat} (h : i < 5) : clsE i = 3 ∨ clsE i = 7 ∨ clsE i = 4 ∨ clsE i = 5 ∨ clsE i = 8 := by
  have : i = 0 ∨ i = 1 ∨ i = 2 ∨ i = 3 ∨ i = 4 := by omega
  rcases this with rfl | rfl | rfl | rfl | rfl <;> decide
theorem zO_ci {a c : Nat} {f g : List Value} (h : (some (zO a f) : Option zE) = some (zO c g)) : a = c := by
  cases h
  rfl
theorem clsE_inj {i j : Nat} (hi : i < 5) (hj : j < 6) (h : clsE i = clsE j) : i = j := by
  have hi' : i = 0 ∨ i = 1 ∨ i = 2 ∨ i = 3 ∨ i = 4 := by omega
  have hj' : j = 0 ∨ j = 1 ∨ j = 2 ∨ j = 3 ∨ j = 4 ∨ j = 5 := by omega
  rcases hi' with rfl | rfl | rfl | rfl | rfl <;> rcases hj' with rfl | rfl | rfl | rfl | rfl | rfl <;> first | rfl | exact absurd h (by decide)
theorem clsE_6 {i : Nat} : clsE i ≠ 1 ∧ clsE i ≠ 13 := by
  unfold clsE
  split <;> exact ⟨by decide, by decide⟩
theorem cellE_mut {b : Nat → Nat} {i : Nat} {e : El} (h : i < 5) : mutE (cellE b i e) := by
  obtain ⟨fs, ef⟩ := cellE_cls (b := b) (i := i) (e := e)
  refine Or.inl ⟨clsE i, fs, ef, ?_⟩
  have := clsE_5 h
  omega
theorem rW.own {b : Nat → Nat} {h : GH} {sh : Sh} {R : RS} (w : rW b h sh R) {q : Nat} (hq : fpS sh R q) : ∃ e, h q = some e ∧ mutE e := by
  obtain ⟨h1, h2, h3, -, -, -, -⟩ := w
  rcases hq with rfl | ⟨i, hi, rfl | hq⟩ | ⟨i, hi, e, hq⟩
  · exact ⟨_, h1, Or.inl ⟨1, _, rfl, Or.inl rfl⟩⟩
  · obtain ⟨m, hm⟩ := (h2 i hi).1
    exact ⟨_, hm, Or.inl ⟨13, _, rfl, Or.inr (Or.inl rfl)⟩⟩
  · obtain ⟨cap, f, e1, -⟩ := (h2 i hi).2.2 q hq
    exact ⟨_, e1, Or.inr ⟨cap, f, rfl⟩⟩
  · exact ⟨_, h3 i (by omega) q e hq, cellE_mut hi⟩
/-- a mill outside a frame's cells stands -/
theorem rW.le {b : Nat → Nat} {h h' : GH} {F : Nat → Prop} {sh : Sh} {R : RS} (w : rW b h sh R) (hf : hF h F h') (hd : ∀ q, fpS sh R q → ¬ F q) (hr : ∀ q e, F q → h q = some e → mutE e) : rW b h' sh R := by
  obtain ⟨h1, h2, h3, h4, h5, h6, h7⟩ := w
  refine ⟨hf.2 _ _ h1 (hd _ (Or.inl rfl)), fun i hi => (h2 i hi).le hf (hd _ (Or.inr (Or.inl ⟨i, hi, Or.inl rfl⟩))) (fun q hq => hd _ (Or.inr (Or.inl ⟨i, hi, Or.inr hq⟩))), fun i hi q e hq => ?_, h4, h5, h6, h7.keep fun q ci fs hc he => hf.2 q _ he fun hF => mutE_no (by omega) (hr q _ hF he)⟩
  by_cases h9 : i < 5
  · exact hf.2 _ _ (h3 i hi q e hq) (hd _ (Or.inr (Or.inr ⟨i, h9, e, hq⟩)))
  · obtain rfl : i = 5 := by omega
    exact hf.2 _ _ (h3 5 hi q e hq) fun hF => mutE_no (ci := 9) (Or.inr (Or.inl rfl)) (hr q _ hF (h3 5 hi q e hq))
theorem rX.le {b : Nat → Nat} {h0 h h' : GH} {F : Nat → Prop} {sh : Sh} {R : RS} (a : rX b h0 F sh R h) (hf : hF h noF h') : rX b h0 F sh R h' :=
  ⟨a.1.le hf (fun _ _ h => h) (fun _ _ h => h.elim), a.2.1.trans hf (fun _ h => h.elim), a.2.2⟩
theorem rX.new {b : Nat → Nat} {h0 h : GH} {F : Nat → Prop} {sh : Sh} {R : RS} {q : Nat} {c : zE} (a : rX b h0 F sh R h) (hq : h q = none) : rX b h0 F sh R (hset h q c) := a.le (hF.new hF.rf hq)
/-- another mill, with cells of its own, stands through a mill's frame -/
theorem rW.apart {b : Nat → Nat} {h h' : GH} {sh sh2 : Sh} {R R2 : RS} (w : rW b h sh R) (w2 : rW b h sh2 R2) (hf : hF h (fpS sh R) h') (hd : ∀ q, fpS sh2 R2 q → ¬ fpS sh R q) : rW b h' sh2 R2 :=
  w2.le hf hd fun q e hq he => by
    obtain ⟨e', h1, h2⟩ := w.own hq
    rw [h1] at he
    cases he
    exact h2
theorem lup_s {L : Nat → ELs} {i : Nat} {ps : ELs} : lup L i ps i = ps := if_pos rfl
theorem lup_n {L : Nat → ELs} {i j : Nat} {ps : ELs} (h : j ≠ i) : lup L i ps j = L j := if_neg h
theorem lup_self {L : Nat → ELs} {i : Nat} : lup L i (L i) = L := by
  funext j
  unfold lup
  by_cases h : j = i
  · rw [if_pos h, h]
  · rw [if_neg h]
theorem lup_lup {L : Nat → ELs} {i : Nat} {ps qs : ELs} : lup (lup L i ps) i qs = lup L i qs := by
  funext j
  unfold lup
  by_cases h : j = i
  · rw [if_pos h, if_pos h]
  · rw [if_neg h, if_neg h, if_neg h]
theorem mem_adr {ps : ELs} {q : Nat} {e : El} (h : (q, e) ∈ ps) : q ∈ adr ps := List.mem_map.mpr ⟨_, h, rfl⟩
theorem adr_at {ps : ELs} {k : Nat} {q : Nat} {e : El} (h : ps[k]? = some (q, e)) : (adr ps)[k]? = some q := by
  unfold adr
  rw [List.getElem?_map, h]
  rfl
theorem adr_set {ps : ELs} {k : Nat} {q : Nat} {e e' : El} (h : ps[k]? = some (q, e)) : adr (ps.set k (q, e')) = adr ps := by
  unfold adr
  rw [List.map_set]
  refine List.ext_getElem? fun j => ?_
  rw [List.getElem?_set]
  by_cases hj : k = j
  · subst hj
    rw [if_pos rfl, List.getElem?_map, h]
    have hl := (List.getElem?_eq_some_iff.mp h).1
    rw [if_pos (by simpa using hl)]
    rfl
  · rw [if_neg hj]
/-- an element's cell written -/
theorem rX.elem {b : Nat → Nat} {h0 h : GH} {F : Nat → Prop} {sh : Sh} {R : RS} {i k q : Nat} {e e' : El} (a : rX b h0 F sh R h) (hi : i < 5) (hk : (R.2.2 i)[k]? = some (q, e)) {c : zE} (hc : c = cellE b i e') : rX b h0 F sh (R.1, R.2.1, lup R.2.2 i ((R.2.2 i).set k (q, e'))) (hset h q c) := by
  subst hc
  obtain ⟨⟨h1, h2, h3, h4, h5, h6, h7⟩, hf, hp⟩ := a
  have hm : (q, e) ∈ R.2.2 i := List.mem_of_getElem? hk
  have hq := h3 i (by omega) q e hm
  obtain ⟨fs, ef⟩ := cellE_cls (b := b) (i := i) (e := e)
  have hcl := clsE_5 hi
  have n1 : ∀ ci fs', h q ≠ some (zO ci fs') ∨ ci = clsE i := fun ci fs' => by
    by_cases hn : h q = some (zO ci fs')
    · right
      rw [hq, ef] at hn
      cases hn
      rfl
    · exact Or.inl hn
  have n2 : ∀ n f, h q ≠ some (zAq 14 n f) := fun n f hn => by
    rw [hq, ef] at hn
    cases hn
  have hfp : F q ∨ h0 q = none := hp q (Or.inr (Or.inr ⟨i, hi, e, hm⟩))
  have hadr : adr ((R.2.2 i).set k (q, e')) = adr (R.2.2 i) := adr_set hk
  have hadr' : ∀ j, adr (lup R.2.2 i ((R.2.2 i).set k (q, e')) j) = adr (R.2.2 j) := fun j => by
    by_cases hj : j = i
    · subst hj; rw [lup_s, hadr]
    · rw [lup_n hj]
  refine ⟨⟨?_, fun j hj => ?_, fun j hj x ex hx => ?_, h4, h5, fun j hj => by show (adr (lup R.2.2 i _ j)).Nodup; rw [hadr']; exact h6 j hj, h7.setM hq (cellE_mut hi)⟩, hf.set hfp, fun x hx => ?_⟩
  · show hset h q _ sh.1 = _
    have hne : sh.1 ≠ q := fun hh => by
      rcases n1 1 (stF sh R.1 R.2.1) with hn | hn
      · rw [← hh] at hn; exact hn h1
      · omega
    rw [hset_n hne]
    exact h1
  · show alA b (hset h q _) (sh.2.1 j) (sh.2.2 j) (adr (lup R.2.2 i _ j))
    rw [hadr']
    refine (h2 j hj).keep (hset_n fun hh => ?_) (fun a ha => hset_n fun hh => ?_)
    · obtain ⟨m, hm⟩ := (h2 j hj).1
      rcases n1 _ _ with hn | hn
      · rw [← hh] at hn; exact hn hm
      · omega
    · obtain ⟨cap, f, e1, -⟩ := (h2 j hj).2.2 a ha
      rw [hh] at e1
      exact n2 _ _ e1
  · show hset h q _ x = _
    have hx : (x, ex) ∈ lup R.2.2 i ((R.2.2 i).set k (q, e')) j := hx
    by_cases hji : j = i
    · subst hji
      rw [lup_s] at hx
      obtain ⟨k', hk'⟩ := List.getElem?_of_mem hx
      rw [List.getElem?_set] at hk'
      by_cases hkk : k = k'
      · rw [if_pos hkk] at hk'
        split at hk'
        · cases hk'; exact hset_s
        · cases hk'
      · rw [if_neg hkk] at hk'
        have hxm := List.mem_of_getElem? hk'
        have hne : x ≠ q := fun hh => by
          subst hh
          have hnd := h6 j hi
          have a1 := adr_at hk
          have a2 := adr_at hk'
          have l1 := (List.getElem?_eq_some_iff.mp a1).1
          exact hkk ((List.getElem?_inj l1 hnd).mp (a1.trans a2.symm))
        rw [hset_n hne]
        exact h3 j hj x ex hxm
    · rw [lup_n hji] at hx
      have hxx := h3 j hj x ex hx
      have hne : x ≠ q := fun hh => by
        subst hh
        obtain ⟨fs2, ef2⟩ := cellE_cls (b := b) (i := j) (e := ex)
        rw [hq, ef, ef2] at hxx
        exact hji (clsE_inj hi hj (zO_ci hxx)).symm
      rw [hset_n hne]
      exact hxx
  · refine hp x ?_
    rcases hx with hx | hx | ⟨j, hj, ex, hx⟩
    · exact Or.inl hx
    · exact Or.inr (Or.inl hx)
    · have : x ∈ adr (R.2.2 j) := by
        rw [← hadr' j]
        exact mem_adr hx
      obtain ⟨⟨x', e''⟩, hm2, rfl⟩ := List.mem_map.mp this
      exact Or.inr (Or.inr ⟨j, hj, e'', hm2⟩)
/-- a number of the State written -/
theorem rX.num {b : Nat → Nat} {h0 h : GH} {F : Nat → Prop} {sh : Sh} {R : RS} (a : rX b h0 F sh R h) (f' : Int → Int) (rc' : Nat) {c : zE} (hc : c = zO 1 (stF sh f' rc')) (hx : mxA h 70 rc' (fun j => f' (8 + j)) (f' 12)) : rX b h0 F sh (f', rc', R.2.2) (hset h sh.1 c) := by
  subst hc
  obtain ⟨⟨h1, h2, h3, h4, h5, h6, h7⟩, hf, hp⟩ := a
  refine ⟨⟨hset_s, fun j hj => ?_, fun j hj x ex hx => ?_, h4, h5, h6, hx.setM h1 (Or.inl ⟨1, _, rfl, Or.inl rfl⟩)⟩, hf.set (hp _ (Or.inl rfl)), hp⟩
  · refine (h2 j hj).keep (hset_n fun hh => ?_) (fun a ha => hset_n fun hh => ?_)
    · obtain ⟨m, hm⟩ := (h2 j hj).1
      rw [hh, h1] at hm
      cases hm
    · obtain ⟨cap, f, e1, -⟩ := (h2 j hj).2.2 a ha
      rw [hh, h1] at e1
      cases e1
  · have hxx := h3 j hj x ex hx
    have hne : x ≠ sh.1 := fun hh => by
      obtain ⟨fs2, ef2⟩ := cellE_cls (b := b) (i := j) (e := ex)
      rw [hh, h1, ef2] at hxx
      exact clsE_6.1 (zO_ci hxx).symm
    show hset h sh.1 _ x = _
    rw [hset_n hne]
    exact hxx
def aup (f : Nat → Option Nat) (i : Nat) (v : Option Nat) : Nat → Option Nat := fun j => if j = i then v else f j
theorem aup_s {f : Nat → Option Nat} {i : Nat} {v : Option Nat} : aup f i v i = v := if_pos rfl
theorem aup_n {f : Nat → Option Nat} {i j : Nat} {v : Option Nat} (h : j ≠ i) : aup f i v j = f j := if_neg h
theorem aup_self {f : Nat → Option Nat} {i : Nat} : aup f i (f i) = f := by
  funext j
  unfold aup
  by_cases h : j = i
  · rw [if_pos h, h]
  · rw [if_neg h]
/-- what an ArrayList's operation may write -/
def fpL (l : Nat) (ar : Option Nat) (q : Nat) : Prop := q = l ∨ ar = some q
/-- a list of the mill's operated on -/
theorem rX.list {b : Nat → Nat} {h0 h h' : GH} {F : Nat → Prop} {sh : Sh} {R : RS} {i : Nat} {ar' : Option Nat} {ps' : ELs} (a : rX b h0 F sh R h) (hi : i < 6) (hl : alA b h' (sh.2.1 i) ar' (adr ps')) (hf' : hF h (fpL (sh.2.1 i) (sh.2.2 i)) h')
    (har : ∀ x, ar' = some x → sh.2.2 i = some x ∨ h x = none) (hps : ∀ q e, (q, e) ∈ ps' → h q = some (cellE b i e)) (hnd : i < 5 → (adr ps').Nodup) (hown : i < 5 → ∀ q e, (q, e) ∈ ps' → F q ∨ h0 q = none) :
    rX b h0 F (sh.1, sh.2.1, aup sh.2.2 i ar') (R.1, R.2.1, lup R.2.2 i ps') h' := by
  obtain ⟨⟨h1, h2, h3, h4, h5, h6, h7⟩, hf, hp⟩ := a
  have cl : ∀ x, fpL (sh.2.1 i) (sh.2.2 i) x → ∃ e, h x = some e ∧ ((∃ fs, e = zO 13 fs) ∨ ∃ n f, e = zAq 14 n f) := fun x hx => by
    rcases hx with rfl | hx
    · obtain ⟨m, hm⟩ := (h2 i hi).1
      exact ⟨_, hm, Or.inl ⟨_, rfl⟩⟩
    · obtain ⟨cap, f, e1, -⟩ := (h2 i hi).2.2 x hx
      exact ⟨_, e1, Or.inr ⟨_, _, rfl⟩⟩
  have no : ∀ x ci fs, ci ≠ 13 → h x = some (zO ci fs) → ¬ fpL (sh.2.1 i) (sh.2.2 i) x := fun x ci fs hc hx hq => by
    obtain ⟨e, e1, ⟨fs', e2⟩ | ⟨n, f, e2⟩⟩ := cl x hq
    · rw [hx] at e1
      cases e1
      cases e2
      exact hc rfl
    · rw [hx] at e1
      cases e1
      cases e2
  have hcell : ∀ j q e, h q = some (cellE b j e) → h' q = some (cellE b j e) := fun j q e hq => by
    obtain ⟨fs, ef⟩ := cellE_cls (b := b) (i := j) (e := e)
    rw [ef] at hq ⊢
    exact hf'.2 _ _ hq (no _ _ _ clsE_6.2 hq)
  refine ⟨⟨hf'.2 _ _ h1 (no _ _ _ (by decide) h1), fun j hj => ?_, fun j hj q e hq => ?_, h4, fun j1 j2 x hj1 hj2 e1 e2 => ?_, fun j hj => ?_, h7.keep fun q ci fs hc he => hf'.2 q _ he (no _ _ _ (by omega) he)⟩, hf.trans hf' fun q hq => ?_, fun q hq => ?_⟩
  · show alA b h' (sh.2.1 j) (aup sh.2.2 i ar' j) (adr (lup R.2.2 i ps' j))
    by_cases hji : j = i
    · subst hji
      rw [aup_s, lup_s]
      exact hl
    · rw [aup_n hji, lup_n hji]
      have c1 : ¬ fpL (sh.2.1 i) (sh.2.2 i) (sh.2.1 j) := fun hq => by
        rcases hq with hq | hq
        · exact hji (h4 j i hj hi hq)
        · obtain ⟨m, hm⟩ := (h2 j hj).1
          obtain ⟨cap, f, e1, -⟩ := (h2 i hi).2.2 _ hq
          rw [hm] at e1
          cases e1
      refine (h2 j hj).le hf' c1 fun q hq hq2 => ?_
      rcases hq2 with hq2 | hq2
      · obtain ⟨m, hm⟩ := (h2 i hi).1
        obtain ⟨cap, f, e1, -⟩ := (h2 j hj).2.2 _ hq
        rw [hq2, hm] at e1
        cases e1
      · exact hji (h5 j i q hj hi hq hq2)
  · have hq : (q, e) ∈ lup R.2.2 i ps' j := hq
    by_cases hji : j = i
    · subst hji
      rw [lup_s] at hq
      exact hcell _ _ _ (hps q e hq)
    · rw [lup_n hji] at hq
      exact hcell _ _ _ (h3 j hj q e hq)
  · have e1 : aup sh.2.2 i ar' j1 = some x := e1
    have e2 : aup sh.2.2 i ar' j2 = some x := e2
    have lv : ∀ j, j < 6 → sh.2.2 j = some x → h x ≠ none := fun j hj hx hn => by
      obtain ⟨cap, f, e1, -⟩ := (h2 j hj).2.2 x hx
      rw [hn] at e1
      cases e1
    by_cases c1 : j1 = i <;> by_cases c2 : j2 = i
    · rw [c1, c2]
    · rw [c1, aup_s] at e1
      rw [aup_n c2] at e2
      rcases har x e1 with q | q
      · rw [c1]; exact h5 i j2 x hi hj2 q e2
      · exact absurd q (lv j2 hj2 e2)
    · rw [c2, aup_s] at e2
      rw [aup_n c1] at e1
      rcases har x e2 with q | q
      · rw [c2]; exact h5 j1 i x hj1 hi e1 q
      · exact absurd q (lv j1 hj1 e1)
    · rw [aup_n c1] at e1
      rw [aup_n c2] at e2
      exact h5 j1 j2 x hj1 hj2 e1 e2
  · show (adr (lup R.2.2 i ps' j)).Nodup
    by_cases hji : j = i
    · subst hji
      rw [lup_s]
      exact hnd hj
    · rw [lup_n hji]
      exact h6 j hj
  · rcases hq with rfl | hq
    · exact hp _ (Or.inr (Or.inl ⟨i, hi, Or.inl rfl⟩))
    · exact hp _ (Or.inr (Or.inl ⟨i, hi, Or.inr hq⟩))
  · rcases hq with hq | ⟨j, hj, hq | hq⟩ | ⟨j, hj, e, hq⟩
    · exact hp q (Or.inl hq)
    · exact hp q (Or.inr (Or.inl ⟨j, hj, Or.inl hq⟩))
    · have hq : aup sh.2.2 i ar' j = some q := hq
      by_cases hji : j = i
      · rw [hji, aup_s] at hq
        rcases har q hq with x | x
        · exact hp q (Or.inr (Or.inl ⟨i, hi, Or.inr x⟩))
        · exact Or.inr (hf.1 q x)
      · rw [aup_n hji] at hq
        exact hp q (Or.inr (Or.inl ⟨j, hj, Or.inr hq⟩))
    · have hq : (q, e) ∈ lup R.2.2 i ps' j := hq
      by_cases hji : j = i
      · rw [hji, lup_s] at hq
        exact hown (by omega) q e hq
      · rw [lup_n hji] at hq
        exact hp q (Or.inr (Or.inr ⟨j, hj, e, hq⟩))
theorem ELs.at {ps : ELs} {k : Int} (h : 0 ≤ k ∧ k < (ps.length : Int)) : ∃ q e, ps[k.toNat]? = some (q, e) :=
  ⟨_, _, List.getElem?_eq_getElem (by omega)⟩
theorem rW.el {b : Nat → Nat} {h : GH} {sh : Sh} {R : RS} (w : rW b h sh R) {i k q : Nat} {e : El} (hi : i < 6) (hk : (R.2.2 i)[k]? = some (q, e)) : h q = some (cellE b i e) := w.2.2.1 i hi q e (List.mem_of_getElem? hk)
end RREP
