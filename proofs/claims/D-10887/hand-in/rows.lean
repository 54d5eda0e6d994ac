section
/-- one more place of a fill -/
theorem rr_fill {s : Nat → Int32} {i k : Nat} {x : Int32} (hk : k = i) (h : ∀ j, j < i → s j = x) : ∀ j, j < i + 1 → upd s k x j = x := by
  intro j hj
  rw [hk]
  by_cases e : j = i
  · rw [e, pk_us]
  · rw [pk_un e]
    exact h j (by omega)
/-- summarise's third loop where no used row is left -/
theorem rr_52 {post : St2 → Prop} {f0 : Int32} {a1 a2 a3 a4 a5 a6 a7 a8 a9 a10 a11 a12 a13 a14 a15 : Nat → Int32} (i0 : Nat) (hi0 : i0 ≤ 14) (h : ∀ j, i0 ≤ j → j < 14 → a1 j = 0) (H : post (f0, a1, a2, a3, a4, a5, a6, a7, a8, a9, a10, a11, a12, a13, a14, a15)) : ∃ n, wX_summarise_52 post f0 n (nI i0) a1 a2 a3 a4 a5 a6 a7 a8 a9 a10 a11 a12 a13 a14 a15 :=
  pk_loop (σ := Unit) (fun n i _ => wX_summarise_52 post f0 n (nI i) a1 a2 a3 a4 a5 a6 a7 a8 a9 a10 a11 a12 a13 a14 a15) (fun i _ => i0 ≤ i) 14 i0 () hi0 (Nat.le_refl _)
    (fun n _ _ => pk_le 14 14 (fun _ => H) (fun z => absurd z (by omega)))
    (fun n i _ hi h0 hw => pk_le 14 i (fun z => absurd z (by omega)) (fun _ => ⟨pk_in i 14 hi, br_t (by rw [nI_clamp (by omega)]; exact h i h0 hi) (nm_r (nI_1 i) (hw () (by omega)))⟩))
/-- summarise's third loop where row 0 alone is used -/
theorem rr_52o {post : St2 → Prop} {f0 : Int32} {a1 a2 a3 a4 a5 a6 a7 a8 a9 a10 a11 a12 a13 a14 a15 : Nat → Int32} (k g : Nat) (hk : k < 6) (hg : g < 8) (h1 : ¬ a1 0 = 0) (h2 : a2 0 = nI k) (h3 : a3 0 = nI g) (h : ∀ j, 1 ≤ j → j < 14 → a1 j = 0) (h7 : a7 (k * 8 + g) = 1000000)
    (H : ∀ b6, post (f0, a1, a2, a3, a4, upd a5 k (a5 k + 1), b6, upd a7 (k * 8 + g) (a4 0), a8, a9, a10, a11, a12, a13, a14, a15)) : ∃ n, wX_summarise_52 post f0 n 0 a1 a2 a3 a4 a5 a6 a7 a8 a9 a10 a11 a12 a13 a14 a15 := by
  obtain ⟨n, hn⟩ := rr_52 (post := post) (f0 := f0) (a1 := a1) (a2 := a2) (a3 := a3) (a4 := a4) (a5 := upd a5 k (a5 k + 1)) (a6 := upd a6 k ((a6 k) ||| ((1 : Int32) <<< ((a3 0) &&& 31)))) (a7 := upd a7 (k * 8 + g) (a4 0)) (a8 := a8) (a9 := a9) (a10 := a10) (a11 := a11) (a12 := a12) (a13 := a13) (a14 := a14) (a15 := a15) 1 (by omega) h (H _)
  have ek : (nI k).toNatClampNeg = k := nI_clamp (by omega)
  have ekg : (nI (k * 8 + g)).toNatClampNeg = k * 8 + g := nI_clamp (by omega)
  have e3 : nI k * 8 + a3 0 = nI (k * 8 + g) := by
    rw [h3, ← nI_add, ← pk_mul]
    rfl
  refine ⟨n + 1, pk_le 14 0 (fun z => absurd z (by omega)) (fun _ => ⟨pk_in 0 14 (by omega), br_f h1 ⟨pk_in 0 14 (by omega), nm_r h2 ⟨pk_in 0 14 (by omega), nm_r e3 ⟨pk_in k 6 hk, pk_in k 6 hk, ?_⟩⟩⟩⟩)⟩
  rw [ek, ekg]
  refine nm_e ⟨pk_in k 6 hk, pk_in 0 14 (by omega), pk_in k 6 hk, nm_e ⟨pk_in (k * 8 + g) 48 (by omega), br_t h7 ?_⟩⟩
  refine And.intro (pk_in 0 14 (by omega)) (And.intro (pk_in (k * 8 + g) 48 (by omega)) ?_)
  rw [ekg]
  exact nm_e (nm_r (nI_1 0) hn)
/-- summarise's second loop: every greatest value is none -/
theorem rr_30 {post : St2 → Prop} {f0 : Int32} {a1 a2 a3 a4 a5 a6 a7 a8 a9 a10 a11 a12 a13 a14 a15 : Nat → Int32} (H : ∀ b7 : Nat → Int32, (∀ j, j < 48 → b7 j = 1000000) → ∃ n, wX_summarise_52 post f0 n 0 a1 a2 a3 a4 a5 a6 b7 a8 a9 a10 a11 a12 a13 a14 a15) : ∃ n, wX_summarise_30 post f0 n 0 a1 a2 a3 a4 a5 a6 a7 a8 a9 a10 a11 a12 a13 a14 a15 :=
  pk_loop (fun n i s => wX_summarise_30 post f0 n (nI i) a1 a2 a3 a4 a5 a6 s a8 a9 a10 a11 a12 a13 a14 a15) (fun i s => ∀ j, j < i → s j = 1000000) 48 0 a7 (by omega) (fun j hj => absurd hj (by omega))
    (fun n s h => pk_le 48 48 (fun _ => H s h) (fun z => absurd z (by omega)))
    (fun n i s hi h hw => pk_le 48 i (fun z => absurd z (by omega)) (fun _ => ⟨pk_in i 48 hi, nm_e (nm_r (nI_1 i) (hw _ (rr_fill (nI_clamp (by omega)) h)))⟩))
/-- summarise's first loop: no rows, no groups -/
theorem rr_2 {post : St2 → Prop} {f0 : Int32} {a1 a2 a3 a4 a5 a6 a7 a8 a9 a10 a11 a12 a13 a14 a15 : Nat → Int32} (H : ∀ b5 b6 : Nat → Int32, (∀ j, j < 6 → b5 j = 0) → ∃ n, wX_summarise_30 post f0 n 0 a1 a2 a3 a4 b5 b6 a7 a8 a9 a10 a11 a12 a13 a14 a15) : ∃ n, wX_summarise_2 post f0 n 0 a1 a2 a3 a4 a5 a6 a7 a8 a9 a10 a11 a12 a13 a14 a15 :=
  pk_loop (σ := (Nat → Int32) × (Nat → Int32)) (fun n i s => wX_summarise_2 post f0 n (nI i) a1 a2 a3 a4 s.1 s.2 a7 a8 a9 a10 a11 a12 a13 a14 a15) (fun i s => ∀ j, j < i → s.1 j = 0) 6 0 (a5, a6) (by omega) (fun j hj => absurd hj (by omega))
    (fun n s h => pk_le 6 6 (fun _ => H s.1 s.2 h) (fun z => absurd z (by omega)))
    (fun n i s hi h hw => pk_le 6 i (fun z => absurd z (by omega)) (fun _ => ⟨pk_in i 6 hi, nm_e ⟨pk_in i 6 hi, nm_e (nm_r (nI_1 i) (hw (_, _) (rr_fill (nI_clamp (by omega)) h)))⟩⟩))
/-- summarise with no row used -/
theorem rr_sumN {post : St2 → Prop} {f0 : Int32} {a1 a2 a3 a4 a5 a6 a7 a8 a9 a10 a11 a12 a13 a14 a15 : Nat → Int32} (h : ∀ j, j < 14 → a1 j = 0)
    (H : ∀ b5 b6 b7 : Nat → Int32, (∀ j, j < 6 → b5 j = 0) → (∀ j, j < 48 → b7 j = 1000000) → post (f0, a1, a2, a3, a4, b5, b6, b7, a8, a9, a10, a11, a12, a13, a14, a15)) : wpX_summarise post (f0, a1, a2, a3, a4, a5, a6, a7, a8, a9, a10, a11, a12, a13, a14, a15) :=
  rr_2 (fun b5 b6 h5 => rr_30 (fun b7 h7 => rr_52 0 (by omega) (fun j _ hj => h j hj) (H b5 b6 b7 h5 h7)))
/-- summarise with row 0 alone used -/
theorem rr_sumO {post : St2 → Prop} {f0 : Int32} {a1 a2 a3 a4 a5 a6 a7 a8 a9 a10 a11 a12 a13 a14 a15 : Nat → Int32} (k g : Nat) (hk : k < 6) (hg : g < 8) (h1 : ¬ a1 0 = 0) (h2 : a2 0 = nI k) (h3 : a3 0 = nI g) (h : ∀ j, 1 ≤ j → j < 14 → a1 j = 0)
    (H : ∀ b5 b6 b7 : Nat → Int32, (∀ j, j < 6 → b5 j = if j = k then 1 else 0) → (∀ j, j < 48 → b7 j = if j = k * 8 + g then a4 0 else 1000000) → post (f0, a1, a2, a3, a4, b5, b6, b7, a8, a9, a10, a11, a12, a13, a14, a15)) : wpX_summarise post (f0, a1, a2, a3, a4, a5, a6, a7, a8, a9, a10, a11, a12, a13, a14, a15) :=
  rr_2 (fun b5 b6 h5 => rr_30 (fun b7 h7 => rr_52o k g hk hg h1 h2 h3 h (h7 _ (by omega)) (fun c6 => H _ c6 _
    (fun j hj => by
      by_cases e : j = k
      · rw [e, pk_us, h5 k hk, if_pos rfl]
        rfl
      · rw [pk_un e, h5 j hj, if_neg e])
    (fun j hj => by
      by_cases e : j = k * 8 + g
      · rw [e, pk_us, if_pos rfl]
      · rw [pk_un e, h7 j hj, if_neg e]))))
end
section
/-- coversAll where no key has a row -/
theorem rr_cov {post : Int32 → Prop} {f0 : Int32} {a1 a2 a3 a4 a5 a6 a7 a8 a9 a10 a11 a12 a13 a14 a15 : Nat → Int32} {x : Int32} (h5 : ∀ j, j < 6 → a5 j = 0) (H : post 1) : wpX_coversAll post (f0, a1, a2, a3, a4, a5, a6, a7, a8, a9, a10, a11, a12, a13, a14, a15) x :=
  pk_loop (σ := Unit) (fun n i _ => wX_coversAll_2 post x f0 a1 a2 a3 a4 a5 a6 a7 a8 a9 a10 a11 a12 a13 a14 a15 n (nI i)) (fun _ _ => True) 6 0 () (by omega) trivial
    (fun n _ _ => pk_le 6 6 (fun _ => H) (fun z => absurd z (by omega)))
    (fun n i _ hi _ hw => pk_le 6 i (fun z => absurd z (by omega)) (fun _ => ⟨pk_in i 6 hi, br_t (by rw [nI_clamp (by omega), h5 i hi]; decide) (nm_r (nI_1 i) (hw () trivial))⟩))
theorem rr_bit : ∀ i, i < 8 → ((0 : Int32) >>> (nI i &&& 31)) &&& 1 = 0 := by decide
theorem rr_bit1 (y : Int32) {i : Nat} (hi : i < 8) : ¬ ((y &&& 0) >>> (nI i &&& 31)) &&& 1 = 1 := by
  rw [Int32.and_zero, rr_bit i hi]
  decide
/-- place with an empty mask: nothing is placed -/
theorem rr_place {post : Int32 → St2 → Prop} {f0 : Int32} {a1 a2 a3 a4 a5 a6 a7 a8 a9 a10 a11 a12 a13 a14 a15 : Nat → Int32} {k : Nat} (hk : k < 6) (H : ∀ b10 b11 : Nat → Int32, post 0 (f0, a1, a2, a3, a4, a5, a6, a7, a8, a9, b10, b11, a12, a13, a14, a15)) : wpX_place post (f0, a1, a2, a3, a4, a5, a6, a7, a8, a9, a10, a11, a12, a13, a14, a15) (nI k) 0 :=
  pk_loop (σ := (Nat → Int32) × (Nat → Int32)) (fun n i s => wX_place_5 post (nI k) 0 f0 n 0 (nI i) a1 a2 a3 a4 a5 a6 a7 a8 a9 s.1 s.2 a12 a13 a14 a15) (fun _ _ => True) 8 0 (a10, a11) (by omega) trivial
    (fun n s _ => pk_le 8 8 (fun _ => ⟨1, pk_le 0 0 (fun _ => H s.1 s.2) (fun z => absurd z (by omega))⟩) (fun z => absurd z (by omega)))
    (fun n i s hi _ hw => pk_le 8 i (fun z => absurd z (by omega)) (fun _ => ⟨pk_in k 6 hk, br_f (rr_bit1 _ hi)
      (And.intro (pk_in i 8 hi) (nm_r (e' := upd s.2 i 0) (by rw [nI_clamp (by omega)]; rfl) ⟨pk_in i 8 hi, nm_e ⟨pk_in i 8 hi, br_t (by rw [nI_clamp (by omega)]; exact pk_us) (nm_r (nI_1 i) (hw (_, _) trivial))⟩⟩))⟩))
theorem rr_m25 {post : Int32 → St2 → Prop} {f0 : Int32} {a1 a2 a3 a4 a5 a6 a7 a8 a9 a10 a11 a12 a13 a14 a15 : Nat → Int32} (H : ∀ b10 b11 : Nat → Int32, post 0 (f0, a1, a2, a3, a4, a5, a6, a7, a8, a9, b10, b11, a12, a13, a14, a15)) : ∃ n, wX_matching_25 post 0 n 0 0 f0 a1 a2 a3 a4 a5 a6 a7 a8 a9 a10 a11 a12 a13 a14 a15 :=
  pk_loop (σ := (Nat → Int32) × (Nat → Int32)) (fun n i s => wX_matching_25 post 0 n 0 (nI i) f0 a1 a2 a3 a4 a5 a6 a7 a8 a9 s.1 s.2 a12 a13 a14 a15) (fun _ _ => True) 6 0 (a10, a11) (by omega) trivial
    (fun n s _ => pk_le 6 6 (fun _ => H s.1 s.2) (fun z => absurd z (by omega)))
    (fun n i s hi _ hw => pk_le 6 i (fun z => absurd z (by omega)) (fun _ => rr_place hi (fun b10 b11 => br_t rfl (nm_r (nI_1 i) (hw (b10, b11) trivial)))))
/-- matching with an empty mask is 0 -/
theorem rr_match {post : Int32 → St2 → Prop} {f0 : Int32} {a1 a2 a3 a4 a5 a6 a7 a8 a9 a10 a11 a12 a13 a14 a15 : Nat → Int32} (H : ∀ b8 b10 b11 : Nat → Int32, post 0 (f0, a1, a2, a3, a4, a5, a6, a7, b8, a9, b10, b11, a12, a13, a14, a15)) : wpX_matching post (f0, a1, a2, a3, a4, a5, a6, a7, a8, a9, a10, a11, a12, a13, a14, a15) 0 :=
  pk_loop (fun n i s => wX_matching_4 post 0 0 f0 n (nI i) a1 a2 a3 a4 a5 a6 a7 s a9 a10 a11 a12 a13 a14 a15) (fun _ _ => True) 8 0 a8 (by omega) trivial
    (fun n s _ => pk_le 8 8 (fun _ => rr_m25 (H s)) (fun z => absurd z (by omega)))
    (fun n i s hi _ hw => pk_le 8 i (fun z => absurd z (by omega)) (fun _ => ⟨pk_in i 8 hi, nm_e (nm_r (nI_1 i) (hw _ trivial))⟩))
theorem rr_bits {post : Int32 → Prop} {u : St0} (H : post 0) : wpX_bits post u 0 :=
  pk_loop (σ := Unit) (fun n i _ => wX_bits_4 post 0 n 0 (nI i)) (fun _ _ => True) 8 0 () (by omega) trivial
    (fun n _ _ => pk_le 8 8 (fun _ => H) (fun z => absurd z (by omega)))
    (fun n i _ hi _ hw => pk_le 8 i (fun z => absurd z (by omega)) (fun _ => nm_r (e' := 0) (by rw [rr_bit i hi]; rfl) (nm_r (nI_1 i) (hw () trivial))))
/-- exactly(256) where no key has a row -/
theorem rr_exact {post : Int32 → St2 → Prop} {f0 : Int32} {a1 a2 a3 a4 a5 a6 a7 a8 a9 a10 a11 a12 a13 a14 a15 : Nat → Int32} (h5 : ∀ j, j < 6 → a5 j = 0) (H : ∀ b8 b10 b11 : Nat → Int32, post 1 (f0, a1, a2, a3, a4, a5, a6, a7, b8, a9, b10, b11, a12, a13, a14, a15)) : wpX_exactly post (f0, a1, a2, a3, a4, a5, a6, a7, a8, a9, a10, a11, a12, a13, a14, a15) 256 :=
  nm_r (P := fun x => _) (show (256 : Int32) &&& 255 = 0 by decide) (rr_cov h5 (br_f (by decide) (rr_match (fun b8 b10 b11 => rr_bits (br_t rfl (H b8 b10 b11))))))
end
section
theorem rr_lt8 {x : Int32} : x ≤ 7 ↔ x < 8 := by
  rw [Int32.le_iff_toInt_le, Int32.lt_iff_toInt_lt, show (7 : Int32).toInt = 7 by decide, show (8 : Int32).toInt = 8 by decide]
  omega
theorem rr_lt6 {x : Int32} : x ≤ 5 ↔ x < 6 := by
  rw [Int32.le_iff_toInt_le, Int32.lt_iff_toInt_lt, show (5 : Int32).toInt = 5 by decide, show (6 : Int32).toInt = 6 by decide]
  omega
theorem rr_nn {x : Int32} (h : x ≤ 1000) : ¬ x = 1000000 := by
  intro e
  rw [e] at h
  exact absurd h (by decide)
/-- the object with no row -/
def rr_E (f0 : Int32) (a1 a5 : Nat → Int32) : Prop := f0 = 0 ∧ (∀ j, j < 14 → a1 j = 0) ∧ (∀ j, j < 6 → a5 j = 0)
/-- the object with row 0 alone: key k, group g, value v -/
def rr_O (k g : Nat) (v f0 : Int32) (a1 a2 a3 a4 a5 a7 : Nat → Int32) : Prop := f0 = 1 ∧ a1 0 = 1 ∧ (∀ j, 1 ≤ j → j < 14 → a1 j = 0) ∧ a2 0 = nI k ∧ a3 0 = nI g ∧ a4 0 = v ∧ (∀ j, j < 6 → a5 j = if j = k then 1 else 0) ∧ (∀ j, j < 48 → a7 j = if j = k * 8 + g then v else 1000000)
/-- add of a good row to the object with no row -/
theorem rr_addO {post : Int32 → St2 → Prop} {f0 : Int32} {a1 a2 a3 a4 a5 a6 a7 a8 a9 a10 a11 a12 a13 a14 a15 : Nat → Int32} {x0 x1 x2 : Int32} (E : rr_E f0 a1 a5) (h0 : ¬ x0 < 0) (h0' : x0 < 6) (h1 : ¬ x1 < 0) (h1' : x1 < 8) (h2 : ¬ x2 < (-1000)) (h2' : x2 ≤ 1000)
    (H : ∀ (k g : Nat) (f0 : Int32) (b1 b2 b3 b4 b5 b6 b7 : Nat → Int32), k < 6 → g < 8 → x1 = nI g → rr_O k g x2 f0 b1 b2 b3 b4 b5 b7 → post 0 (f0, b1, b2, b3, b4, b5, b6, b7, a8, a9, a10, a11, a12, a13, a14, a15)) : wpX_add post (f0, a1, a2, a3, a4, a5, a6, a7, a8, a9, a10, a11, a12, a13, a14, a15) x0 x1 x2 := by
  obtain ⟨e0, e1, e5⟩ := E
  subst e0
  obtain ⟨k, hk, ek⟩ := nI_of2 (M := 5) (n := 5) (by decide) h0 (rr_lt6.mpr h0')
  obtain ⟨g, hg, eg⟩ := nI_of2 (M := 7) (n := 7) (by decide) h1 (rr_lt8.mpr h1')
  refine br_f h0 (br_t h0' (br_f h1 (br_t h1' (br_f h2 (br_t h2' (br_t (by decide) ⟨1, ?_⟩))))))
  refine pk_le 13 0 (fun z => absurd z (by omega)) (fun _ => ⟨pk_in 0 14 (by omega), br_t (e1 0 (by omega)) ?_⟩)
  refine And.intro (pk_in 0 14 (by omega)) (nm_r (e' := upd a1 0 1) rfl ⟨pk_in 0 14 (by omega), nm_r (e' := upd a2 0 x0) rfl ⟨pk_in 0 14 (by omega), nm_r (e' := upd a3 0 x1) rfl ⟨pk_in 0 14 (by omega), nm_r (e' := upd a4 0 x2) rfl (nm_r (e' := 1) (by decide) ?_)⟩⟩⟩)
  have h1s : ∀ j, 1 ≤ j → j < 14 → upd a1 0 1 j = 0 := fun j hj hj' => by
    rw [pk_un (by omega)]
    exact e1 j hj'
  have hv : upd a4 0 x2 0 = x2 := pk_us
  refine rr_sumO k g (by omega) (by omega) (by rw [pk_us]; decide) (by rw [pk_us]; exact ek) (by rw [pk_us]; exact eg) h1s (fun b5 b6 b7 h5 h7 => ?_)
  rw [hv] at h7
  exact H k g 1 (upd a1 0 1) (upd a2 0 x0) (upd a3 0 x1) (upd a4 0 x2) b5 b6 b7 (by omega) (by omega) eg ⟨rfl, pk_us, h1s, by rw [pk_us]; exact ek, by rw [pk_us]; exact eg, hv, h5, h7⟩
/-- sumOf's loop where no key has a row -/
theorem rr_sofE {post : Int32 → Prop} {f0 : Int32} {a1 a2 a3 a4 a5 a6 a7 a8 a9 a10 a11 a12 a13 a14 a15 : Nat → Int32} {x y : Int32} (h5 : ∀ j, j < 6 → a5 j = 0) (H : post 0) : wpX_sumOf post (f0, a1, a2, a3, a4, a5, a6, a7, a8, a9, a10, a11, a12, a13, a14, a15) x y :=
  pk_loop (σ := Unit) (fun n i _ => wX_sumOf_5 post x y f0 a1 a2 a3 a4 a5 a6 a7 a8 a9 a10 a11 a12 a13 a14 a15 n 0 (nI i)) (fun _ _ => True) 6 0 () (by omega) trivial
    (fun n _ _ => pk_le 6 6 (fun _ => H) (fun z => absurd z (by omega)))
    (fun n i _ hi _ hw => pk_le 6 i (fun z => absurd z (by omega)) (fun _ => ⟨pk_in i 6 hi, br_t (by rw [nI_clamp (by omega), h5 i hi]; decide) (nm_r (nI_1 i) (hw () trivial))⟩))
/-- part's loop where no used row is left -/
theorem rr_p7 {post : Int32 → Prop} {f0 : Int32} {a1 a2 a3 a4 a5 a6 a7 a8 a9 a10 a11 a12 a13 a14 a15 : Nat → Int32} {x1 x2 x3 x4 : Int32} (i0 : Nat) (hi0 : i0 ≤ 14) (h : ∀ j, i0 ≤ j → j < 14 → a1 j = 0) (H : post x4) : ∃ n, wX_part_7 post x1 x2 x3 f0 a1 a2 a3 a4 a5 a6 a7 a8 a9 a10 a11 a12 a13 a14 a15 n x4 (nI i0) :=
  pk_loop (σ := Unit) (fun n i _ => wX_part_7 post x1 x2 x3 f0 a1 a2 a3 a4 a5 a6 a7 a8 a9 a10 a11 a12 a13 a14 a15 n x4 (nI i)) (fun i _ => i0 ≤ i) 14 i0 () hi0 (Nat.le_refl _)
    (fun n _ _ => pk_le 14 14 (fun _ => H) (fun z => absurd z (by omega)))
    (fun n i _ hi h0 hw => pk_le 14 i (fun z => absurd z (by omega)) (fun _ => ⟨pk_in i 14 hi, br_t (by rw [nI_clamp (by omega)]; exact h i h0 hi) (nm_r (nI_1 i) (hw () (by omega)))⟩))
/-- part of the one row's key -/
theorem rr_part {post : Int32 → Prop} {f0 : Int32} {a1 a2 a3 a4 a5 a6 a7 a8 a9 a10 a11 a12 a13 a14 a15 : Nat → Int32} {k g : Nat} {v x y r : Int32} (O : rr_O k g v f0 a1 a2 a3 a4 a5 a7) (hr : r = if nI g = x then v else 0) (H : post r) : wpX_part post (f0, a1, a2, a3, a4, a5, a6, a7, a8, a9, a10, a11, a12, a13, a14, a15) (nI k) x y := by
  subst hr
  obtain ⟨_, e1, e1', e2, e3, e4, _, _⟩ := O
  obtain ⟨n, hn⟩ := rr_p7 (post := post) (f0 := f0) (a1 := a1) (a2 := a2) (a3 := a3) (a4 := a4) (a5 := a5) (a6 := a6) (a7 := a7) (a8 := a8) (a9 := a9) (a10 := a10) (a11 := a11) (a12 := a12) (a13 := a13) (a14 := a14) (a15 := a15) (x1 := nI k) (x2 := x) (x3 := y) 1 (by omega) e1' H
  refine ⟨n + 1, pk_le 14 0 (fun z => absurd z (by omega)) (fun _ => ⟨pk_in 0 14 (by omega), br_f ?_ ⟨pk_in 0 14 (by omega), br_t e2 ⟨pk_in 0 14 (by omega), br_c (fun z => ⟨pk_in 0 14 (by omega), ?_⟩) (fun z => ?_)⟩⟩⟩)⟩
  · have z : ¬ a1 0 = 0 := by
      rw [e1]
      decide
    exact z
  · have z' : nI g = x := e3.symm.trans z
    rw [if_pos z'] at hn
    exact br_t rfl (nm_r (nI_1 0) (by rw [← e4] at hn; exact hn))
  · have z' : ¬ nI g = x := fun t => z (e3.trans t)
    rw [if_neg z'] at hn
    exact br_t rfl (nm_r (nI_1 0) hn)
/-- sumOf of the object with one row -/
theorem rr_sofO {post : Int32 → Prop} {f0 : Int32} {a1 a2 a3 a4 a5 a6 a7 a8 a9 a10 a11 a12 a13 a14 a15 : Nat → Int32} {k g : Nat} {v x y r : Int32} (hk : k < 6) (O : rr_O k g v f0 a1 a2 a3 a4 a5 a7) (hr : r = if nI g = x then v else 0) (H : post r) : wpX_sumOf post (f0, a1, a2, a3, a4, a5, a6, a7, a8, a9, a10, a11, a12, a13, a14, a15) x y := by
  obtain ⟨n, hn⟩ := pk_loop (σ := Int32) (fun n i s => wX_sumOf_5 post x y f0 a1 a2 a3 a4 a5 a6 a7 a8 a9 a10 a11 a12 a13 a14 a15 n s (nI i)) (fun i s => s = if k < i then r else 0) 6 0 0 (by omega) (by rw [if_neg (by omega)])
    (fun n s h => pk_le 6 6 (fun _ => by rw [if_pos hk] at h; rw [h]; exact H) (fun z => absurd z (by omega)))
    (fun n i s hi h hw => pk_le 6 i (fun z => absurd z (by omega)) (fun _ => ⟨pk_in i 6 hi, by
      have h5 := O.2.2.2.2.2.2.1 i hi
      rw [nI_clamp (by omega)]
      by_cases e : i = k
      · rw [if_pos e] at h5
        refine br_f (by rw [h5]; decide) ?_
        rw [e]
        refine rr_part O hr (nm_e (nm_r (nI_1 k) ?_))
        rw [← e]
        refine hw _ ?_
        rw [h, if_neg (by omega), if_pos (by omega)]
        exact Int32.zero_add _
      · rw [if_neg e] at h5
        refine br_t (by rw [h5]; decide) (nm_r (nI_1 i) (hw _ ?_))
        rw [h]
        by_cases t : k < i
        · rw [if_pos t, if_pos (by omega)]
        · rw [if_neg t, if_neg (by omega)]⟩))
  exact ⟨n, hn⟩
/-- sumMost of a state whose sumOf is known -/
theorem rr_most {post : Int32 → Prop} {f0 : Int32} {a1 a2 a3 a4 a5 a6 a7 a8 a9 a10 a11 a12 a13 a14 a15 : Nat → Int32} {x r : Int32} (h : ∀ ψ : Int32 → Prop, ψ r → wpX_sumOf ψ (f0, a1, a2, a3, a4, a5, a6, a7, a8, a9, a10, a11, a12, a13, a14, a15) x 1) (Hb : (x < 0 ∨ ¬ x ≤ 7) → post 1000000) (Hg : ¬ x < 0 → x ≤ 7 → post r) : wpX_sumMost post (f0, a1, a2, a3, a4, a5, a6, a7, a8, a9, a10, a11, a12, a13, a14, a15) x :=
  br_c (c := x < 0) (fun z => br_f (by decide) (Hb (Or.inl z))) (fun z => br_c (fun t => br_t rfl (h _ (Hg z (rr_lt8.mpr t)))) (fun t => br_f (by decide) (Hb (Or.inr (fun w => t (rr_lt8.mp w))))))
/-- middleMost's inner loop -/
theorem rr_26 {post : Int32 → St2 → Prop} {J : Int32 → Int32 → Int32 → (Nat → Int32) → (Nat → Int32) → (Nat → Int32) → (Nat → Int32) → (Nat → Int32) → (Nat → Int32) → (Nat → Int32) → (Nat → Int32) → (Nat → Int32) → (Nat → Int32) → (Nat → Int32) → (Nat → Int32) → (Nat → Int32) → (Nat → Int32) → (Nat → Int32) → Prop} {f0 : Int32} {a1 a2 a3 a4 a5 a6 a7 a8 a9 a10 a11 a12 a13 a14 a15 : Nat → Int32} {k g i : Nat} {v x1 : Int32} (hi : i < 6) (hg : g < 8) (hv : ¬ v = 1000000) (h7 : ∀ j, j < 48 → a7 j = if j = k * 8 + g then v else 1000000)
    (H0 : ¬ i = k → J x1 (nI (i + 1)) f0 a1 a2 a3 a4 a5 a6 a7 a8 a9 a10 a11 a12 a13 a14 a15) (H1 : i = k → x1 = 0 ∧ J 1 (nI (i + 1)) f0 a1 a2 a3 a4 a5 a6 a7 a8 a9 a10 a11 a12 a13 a14 (upd a15 0 v)) : ∃ n, wX_middleMost_26 post J x1 (nI i) f0 a1 a2 a3 a4 a5 a6 a7 a8 a9 a10 a11 a12 a13 a14 a15 n 1000000 0 := by
  obtain ⟨n, hn⟩ := pk_loop (σ := Int32) (fun n c s => wX_middleMost_26 post J x1 (nI i) f0 a1 a2 a3 a4 a5 a6 a7 a8 a9 a10 a11 a12 a13 a14 a15 n s (nI c)) (fun c s => s = if i = k ∧ g < c then v else 1000000) 8 0 1000000 (by omega) (by rw [if_neg (by omega)])
    (fun n s h => pk_le 8 8 (fun _ => by
      by_cases e : i = k
      · rw [if_pos ⟨e, hg⟩] at h
        subst h
        obtain ⟨ex, hJ⟩ := H1 e
        subst ex
        refine br_f hv ⟨1, pk_le 0 0 (fun _ => ⟨pk_in 0 6 (by omega), nm_e (nm_r (e' := 1) rfl (nm_r (nI_1 i) hJ))⟩) (fun z => absurd z (by omega))⟩
      · rw [if_neg (fun t => e t.1)] at h
        exact br_t h (nm_r (nI_1 i) (H0 e))) (fun z => absurd z (by omega)))
    (fun n c s hc h hw => pk_le 8 c (fun z => absurd z (by omega)) (fun _ => by
      have ei : nI i * 8 + nI c = nI (i * 8 + c) := by
        rw [← nI_add, ← pk_mul]
        rfl
      rw [ei, nI_clamp (show i * 8 + c < 2 ^ 31 by omega)]
      have h7c := h7 (i * 8 + c) (by omega)
      refine ⟨pk_in (i * 8 + c) 48 (by omega), nm_e ?_⟩
      by_cases e : i * 8 + c = k * 8 + g
      · have e1 : i = k := by omega
        have e2 : c = g := by omega
        rw [if_pos e] at h7c
        rw [if_neg (by omega)] at h
        rw [h7c]
        refine br_f hv (br_t h (nm_r (nI_1 c) (hw _ ?_)))
        rw [if_pos ⟨e1, by omega⟩]
      · rw [if_neg e] at h7c
        refine br_t h7c (nm_r (nI_1 c) (hw _ ?_))
        rw [h]
        by_cases t : i = k ∧ g < c
        · rw [if_pos t, if_pos ⟨t.1, by omega⟩]
        · rw [if_neg t, if_neg (by omega)]))
  exact ⟨n, hn⟩
/-- middleMost of the object with one row -/
theorem rr_midO {post : Int32 → St2 → Prop} {f0 : Int32} {a1 a2 a3 a4 a5 a6 a7 a8 a9 a10 a11 a12 a13 a14 a15 : Nat → Int32} {k g : Nat} {v : Int32} (hk : k < 6) (hg : g < 8) (hv : ¬ v = 1000000) (O : rr_O k g v f0 a1 a2 a3 a4 a5 a7) (H : ∀ b15 : Nat → Int32, post v (f0, a1, a2, a3, a4, a5, a6, a7, a8, a9, a10, a11, a12, a13, a14, b15)) : wpX_middleMost post (f0, a1, a2, a3, a4, a5, a6, a7, a8, a9, a10, a11, a12, a13, a14, a15) := by
  obtain ⟨e0, _, _, _, _, _, _, h7⟩ := O
  refine br_f (by rw [e0]; decide) ?_
  obtain ⟨n, hn⟩ := pk_loop (σ := Int32 × (Nat → Int32)) (fun n i s => wX_middleMost_14 post n s.1 (nI i) f0 a1 a2 a3 a4 a5 a6 a7 a8 a9 a10 a11 a12 a13 a14 s.2) (fun i s => (i ≤ k → s.1 = 0) ∧ (k < i → s.1 = 1 ∧ s.2 0 = v)) 6 0 (0, a15) (by omega) ⟨fun _ => rfl, fun z => absurd z (by omega)⟩
    (fun n s h => pk_le 6 6 (fun _ => by
      obtain ⟨s1, s2⟩ := s
      obtain ⟨g1, g2⟩ := h.2 hk
      dsimp only at g1 g2
      subst g1
      have t : post (s2 0) (f0, a1, a2, a3, a4, a5, a6, a7, a8, a9, a10, a11, a12, a13, a14, s2) := by
        rw [g2]
        exact H s2
      have ed : ((1 : Int32) - 1) / 2 = nI 0 := by decide
      show ¬ (2 : Int32) = 0 ∧ vp_in (((1 : Int32) - 1) / 2) 6 ∧ post (s2 (((1 : Int32) - 1) / 2).toNatClampNeg) (f0, a1, a2, a3, a4, a5, a6, a7, a8, a9, a10, a11, a12, a13, a14, s2)
      rw [ed]
      exact ⟨by decide, pk_in 0 6 (by omega), t⟩) (fun z => absurd z (by omega)))
    (fun n i s hi h hw => pk_le 6 i (fun z => absurd z (by omega)) (fun _ => rr_26 hi hg hv h7
      (fun e => hw s ⟨fun z => h.1 (by omega), fun z => h.2 (by omega)⟩)
      (fun e => ⟨h.1 (by omega), hw (1, upd s.2 0 v) ⟨fun z => absurd z (by omega), fun _ => ⟨rfl, (pk_us : upd s.2 0 v 0 = v)⟩⟩⟩)))
  exact ⟨n, hn⟩
/-- remove of the object with no row -/
theorem rr_remE {post : Int32 → St2 → Prop} {f0 : Int32} {a1 a2 a3 a4 a5 a6 a7 a8 a9 a10 a11 a12 a13 a14 a15 : Nat → Int32} {x : Int32} (h : ∀ j, j < 14 → a1 j = 0) (H : post (-5) (f0, a1, a2, a3, a4, a5, a6, a7, a8, a9, a10, a11, a12, a13, a14, a15)) : wpX_remove post (f0, a1, a2, a3, a4, a5, a6, a7, a8, a9, a10, a11, a12, a13, a14, a15) x :=
  br_c (fun _ => H) (fun z => br_c (fun _ => H) (fun t => by
    rcases pk_ix x (n := 14) (by omega) with c | c | ⟨j, hj, e⟩
    · exact absurd c z
    · exact absurd c t
    · rw [e]
      exact ⟨pk_in j 14 hj, br_t (by rw [nI_clamp (by omega)]; exact h j hj) H⟩))
/-- remove of the object with one row -/
theorem rr_remO {post : Int32 → St2 → Prop} {f0 : Int32} {a1 a2 a3 a4 a5 a6 a7 a8 a9 a10 a11 a12 a13 a14 a15 : Nat → Int32} {k g : Nat} {v x : Int32} (O : rr_O k g v f0 a1 a2 a3 a4 a5 a7) (H0 : x = 0 → ∀ b1 b5 b6 b7 : Nat → Int32, post 0 (0, b1, a2, a3, a4, b5, b6, b7, a8, a9, a10, a11, a12, a13, a14, a15)) (H : ¬ x = 0 → post (-5) (f0, a1, a2, a3, a4, a5, a6, a7, a8, a9, a10, a11, a12, a13, a14, a15)) : wpX_remove post (f0, a1, a2, a3, a4, a5, a6, a7, a8, a9, a10, a11, a12, a13, a14, a15) x := by
  obtain ⟨e0, e1, e1', _⟩ := O
  subst e0
  refine br_c (fun z => H (fun e => absurd z (by rw [e]; decide))) (fun z => br_c (fun t => H (fun e => absurd t (by rw [e]; decide))) (fun t => ?_))
  rcases pk_ix x (n := 14) (by omega) with c | c | ⟨j, hj, e⟩
  · exact absurd c z
  · exact absurd c t
  · by_cases ej : j = 0
    · have ex : x = 0 := by
        rw [e, ej]
        rfl
      subst ex
      refine ⟨pk_in 0 14 (by omega), br_f (show ¬ a1 0 = 0 by rw [e1]; decide) ⟨pk_in 0 14 (by omega), nm_r (e' := upd a1 0 0) rfl (nm_r (e' := 0) (by decide) (rr_sumN (fun i hi => ?_) (fun b5 b6 b7 _ _ => H0 rfl _ b5 b6 b7)))⟩⟩
      by_cases ei : i = 0
      · rw [ei, pk_us]
      · rw [pk_un ei]
        exact e1' i (by omega) hi
    · have ex : ¬ x = 0 := by
        rw [e, ← nI_0, nI_eq (by omega) (by omega)]
        exact ej
      rw [e]
      rw [e] at H ex
      exact ⟨pk_in j 14 hj, br_t (by rw [nI_clamp (by omega)]; exact e1' j (by omega) hj) (H ex)⟩
end
section
theorem rr_203 {post : Int32 → St0 → Prop} {mc ms kc ks : Nat} {z0 z1 : Int32} (H : post 1 ()) (h : z1 = z0) : wL_lawOf_203 post mc ms z0 z1 kc ks := br_t h H
theorem rr_201 {post : Int32 → St0 → Prop} {mc ms kc ks : Nat} {z0 : Int32} (H : post 1 ()) (h : z0 = -5) : wL_lawOf_201 post mc ms z0 kc ks := br_t h H
theorem rr_177E {post : Int32 → St0 → Prop} {mc ms kc ks : Nat} {x3 x6 z0 z1 : Int32} {f0 : Int32} {a1 a2 a3 a4 a5 a6 a7 a8 a9 a10 a11 a12 a13 a14 a15 : Nat → Int32} (H : post 1 ()) (h6 : ¬ x6 = 0) (h1 : ∀ j, j < 14 → a1 j = 0) (h : z1 = z0) : wL_lawOf_177 post mc ms x3 x6 z0 z1 kc ks f0 a1 a2 a3 a4 a5 a6 a7 a8 a9 a10 a11 a12 a13 a14 a15 :=
  br_t h (rr_remE h1 (br_f h6 (rr_201 H rfl)))
theorem rr_177O {post : Int32 → St0 → Prop} {mc ms kc ks k g : Nat} {v x3 z0 z1 : Int32} {f0 : Int32} {a1 a2 a3 a4 a5 a6 a7 a8 a9 a10 a11 a12 a13 a14 a15 : Nat → Int32} (H : post 1 ()) (O : rr_O k g v f0 a1 a2 a3 a4 a5 a7) (h : z1 = z0) : wL_lawOf_177 post mc ms x3 0 z0 z1 kc ks f0 a1 a2 a3 a4 a5 a6 a7 a8 a9 a10 a11 a12 a13 a14 a15 :=
  br_t h (rr_remO O (fun e b1 b5 b6 b7 => br_t rfl (br_t e (rr_203 H rfl))) (fun e => br_t rfl (br_f e (rr_201 H rfl))))
/-- the law behind add, no row taken -/
theorem rr_145E {post : Int32 → St0 → Prop} {mc ms kc ks : Nat} {x2 x3 x4 x6 z0 : Int32} {f0 : Int32} {a1 a2 a3 a4 a5 a6 a7 a8 a9 a10 a11 a12 a13 a14 a15 : Nat → Int32} (H : post 1 ()) (h6 : ¬ x6 = 0) (E : rr_E f0 a1 a5) (hb : (x4 < 0 ∨ ¬ x4 ≤ 7) → z0 = 1000000) (hg : ¬ x4 < 0 → x4 ≤ 7 → z0 = 0) : wL_lawOf_145 post mc ms x2 x3 x4 x6 z0 kc ks f0 a1 a2 a3 a4 a5 a6 a7 a8 a9 a10 a11 a12 a13 a14 a15 :=
  rr_most (fun ψ hψ => rr_sofE E.2.2 hψ)
    (fun z => br_t (hb z).symm (br_t E.1 (br_f h6 (rr_177E H h6 E.2.1 rfl))))
    (fun z t => br_t (hg z t).symm (br_t E.1 (br_f h6 (rr_177E H h6 E.2.1 rfl))))
/-- the law behind add, one row taken -/
theorem rr_145O {post : Int32 → St0 → Prop} {mc ms kc ks k g : Nat} {x2 x3 x4 z0 : Int32} {f0 : Int32} {a1 a2 a3 a4 a5 a6 a7 a8 a9 a10 a11 a12 a13 a14 a15 : Nat → Int32} (H : post 1 ()) (hk : k < 6) (hg8 : g < 8) (hv : ¬ x2 = 1000000) (O : rr_O k g x2 f0 a1 a2 a3 a4 a5 a7) (hb : (x4 < 0 ∨ ¬ x4 ≤ 7) → z0 = 1000000) (hg : ¬ x4 < 0 → x4 ≤ 7 → z0 = if nI g = x4 then x2 else 0) : wL_lawOf_145 post mc ms x2 x3 x4 0 z0 kc ks f0 a1 a2 a3 a4 a5 a6 a7 a8 a9 a10 a11 a12 a13 a14 a15 :=
  rr_most (fun ψ hψ => rr_sofO hk O rfl hψ)
    (fun z => br_t (hb z).symm (rr_midO hk hg8 hv O (fun b15 => br_t rfl (rr_177O H O rfl))))
    (fun z t => br_t (hg z t).symm (rr_midO hk hg8 hv O (fun b15 => br_t rfl (rr_177O H O rfl))))
/-- the law from add on, add refusing -/
theorem rr_85E {post : Int32 → St0 → Prop} {mc ms kc ks : Nat} {x0 x1 x2 x3 x4 x6 : Int32} {f0 : Int32} {a1 a2 a3 a4 a5 a6 a7 a8 a9 a10 a11 a12 a13 a14 a15 : Nat → Int32} (H : post 1 ()) (h6 : ¬ x6 = 0) (E : rr_E f0 a1 a5) (A : ∀ ψ : Int32 → St2 → Prop, ψ x6 (f0, a1, a2, a3, a4, a5, a6, a7, a8, a9, a10, a11, a12, a13, a14, a15) → wpX_add ψ (f0, a1, a2, a3, a4, a5, a6, a7, a8, a9, a10, a11, a12, a13, a14, a15) x0 x1 x2) : wL_lawOf_85 post mc ms x0 x1 x2 x3 x4 x6 kc ks f0 a1 a2 a3 a4 a5 a6 a7 a8 a9 a10 a11 a12 a13 a14 a15 :=
  A _ (br_t rfl (br_c
    (fun z => br_f (c := (1 : Int32) = 0) (by decide) (rr_145E H h6 E (fun _ => rfl) (fun c _ => absurd z c)))
    (fun z => br_c
      (fun t => br_t (c := (0 : Int32) = 0) rfl (br_f h6 (rr_145E H h6 E (fun c => c.elim (fun q => absurd q z) (fun q => absurd t q)) (fun _ _ => rfl))))
      (fun t => br_f (c := (1 : Int32) = 0) (by decide) (rr_145E H h6 E (fun _ => rfl) (fun _ c => absurd c t))))))
/-- the law from add on, add taking the row -/
theorem rr_85O {post : Int32 → St0 → Prop} {mc ms kc ks : Nat} {x0 x1 x2 x3 x4 : Int32} {f0 : Int32} {a1 a2 a3 a4 a5 a6 a7 a8 a9 a10 a11 a12 a13 a14 a15 : Nat → Int32} (H : post 1 ()) (E : rr_E f0 a1 a5) (h0 : ¬ x0 < 0) (h0' : x0 ≤ 5) (h1 : ¬ x1 < 0) (h1' : x1 ≤ 7) (h2 : ¬ x2 < (-1000)) (h2' : x2 ≤ 1000) : wL_lawOf_85 post mc ms x0 x1 x2 x3 x4 0 kc ks f0 a1 a2 a3 a4 a5 a6 a7 a8 a9 a10 a11 a12 a13 a14 a15 :=
  rr_addO E h0 (rr_lt6.mp h0') h1 (rr_lt8.mp h1') h2 h2' (fun k g c0 b1 b2 b3 b4 b5 b6 b7 hk hg eg O => br_t rfl (br_c
    (fun z => br_f (c := (1 : Int32) = 0) (by decide) (rr_145O H hk hg (rr_nn h2') O (fun _ => rfl) (fun c _ => absurd z c)))
    (fun z => br_c
      (fun t => br_t (c := (0 : Int32) = 0) rfl (br_t rfl (br_c
        (fun e => rr_145O H hk hg (rr_nn h2') O (fun c => c.elim (fun q => absurd q z) (fun q => absurd t q)) (fun _ _ => (if_pos (eg.symm.trans e.symm)).symm))
        (fun e => rr_145O H hk hg (rr_nn h2') O (fun c => c.elim (fun q => absurd q z) (fun q => absurd t q)) (fun _ _ => (if_neg (fun q => e (q.symm.trans eg.symm))).symm)))))
      (fun t => br_f (c := (1 : Int32) = 0) (by decide) (rr_145O H hk hg (rr_nn h2') O (fun _ => rfl) (fun _ c => absurd c t))))))
/-- the constructor -/
theorem rr_init {post : St2 → Prop} {mc ms : Nat} {x : St1} (hc : 15 ≤ mc) (hs : 182 ≤ ms) (H : ∀ b5 b6 b7 : Nat → Int32, (∀ j, j < 6 → b5 j = 0) → post (0, (fun _ => 0), (fun _ => 0), (fun _ => 0), (fun _ => 0), b5, b6, b7, (fun _ => 0), (fun _ => 0), (fun _ => 0), (fun _ => 0), (fun _ => 0), (fun _ => 0), (fun _ => 0), (fun _ => 0))) : wpX_init post mc ms x := by
  unfold wpX_init
  refine ⟨by omega, by omega, by omega, by omega, by omega, by omega, by omega, by omega, by omega, by omega, by omega, by omega, by omega, by omega, by omega, by omega, by omega, by omega, by omega, by omega, by omega, by omega, by omega, by omega, by omega, by omega, by omega, by omega, by omega, by omega, ?_⟩
  exact rr_sumN (fun _ _ => rfl) (fun b5 b6 b7 h5 _ => H b5 b6 b7 h5)
theorem rr_cell {post : Int32 → Prop} {L : Nat} {xs : Nat → Int32} {u : St0} {x : Int32} (k : Nat) (hk : k < 2 ^ 31) (hL : L ≤ 5) (H : ∀ r, post r) (hx : x = nI k := by rfl) : wpL_cellAt post L xs u x := by
  subst hx
  exact pk_le L k (fun _ => H 0) (fun z => ⟨pk_in k L z, H _⟩)
theorem rr_law {post : Int32 → St0 → Prop} {u : St0} {p0 p1 p2 p3 p4 : Int32} (H : post 1 ()) : wpL_lawOf post 124 1968 u p0 p1 p2 p3 p4 := by
  refine ⟨by omega, by omega, 15, 182, by omega, by omega, rr_init (by omega) (by omega) (fun b5 b6 b7 h5 => rr_exact h5 (fun b8 b10 b11 => br_f (by decide) (br_t rfl (br_t rfl ?_))))⟩
  have E : rr_E 0 (fun _ => 0) b5 := ⟨rfl, fun _ _ => rfl, h5⟩
  refine br_c (fun z => rr_85E H (by decide) E (fun ψ hψ => br_t z hψ)) (fun z => br_c (fun t => br_c (fun y => ?_) (fun y => br_c (fun w => br_c (fun s => ?_) (fun s => br_c (fun q => ?_) (fun q => ?_))) (fun w => ?_))) (fun t => ?_))
  · exact rr_85E H (by decide) E (fun ψ hψ => br_f z (br_t (rr_lt6.mp t) (br_t y hψ)))
  · exact rr_85E H (by decide) E (fun ψ hψ => br_f z (br_t (rr_lt6.mp t) (br_f y (br_t (rr_lt8.mp w) (br_t s hψ)))))
  · exact rr_85O H E z t y w s q
  · exact rr_85E H (by decide) E (fun ψ hψ => br_f z (br_t (rr_lt6.mp t) (br_f y (br_t (rr_lt8.mp w) (br_f s (br_f q hψ))))))
  · exact rr_85E H (by decide) E (fun ψ hψ => br_f z (br_t (rr_lt6.mp t) (br_f y (br_f (fun c => w (rr_lt8.mpr c)) hψ))))
  · exact rr_85E H (by decide) E (fun ψ hψ => br_f z (br_f (fun c => t (rr_lt6.mpr c)) hψ))
theorem i_vc (xs : Nat → Int32) (L : Nat) (hL : L ≤ 5) : wpL_law (fun r => r = 1) L xs :=
  rr_cell 0 (by omega) hL (fun _ => rr_cell 1 (by omega) hL (fun _ => rr_cell 2 (by omega) hL (fun _ => rr_cell 3 (by omega) hL (fun _ => rr_cell 4 (by omega) hL (fun _ => ⟨124, 1968, by omega, by omega, rr_law rfl⟩)))))
end
