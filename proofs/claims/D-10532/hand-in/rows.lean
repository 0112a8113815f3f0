section
/-! ===== the tests of track and stretch, the counting loops ===== -/
section
variable {r o c b : Int32} {a1 a2 a3 a4 a5 a6 a7 a8 a9 a10 a11 a12 a13 a14 : Nat → Int32} {k : Nat}
theorem ta_track {P : Int32 → Prop} (hk : k < 3) (h : P 1) : wpX_isTrack P () (nI k) :=
  br_f (nI_pos (by omega)) (br_f (nI_nlt (a := 2) (b := k) (by omega) (by decide)) h)
theorem ta_bad {P : Int32 → Prop} {p : Int32} (hp : p < 0 ∨ 2 < p) (h : P 0) : wpX_isTrack P () p :=
  br_c (fun _ => h) (fun n => br_t (hp.resolve_left n) h)
theorem ta_fit {P : Int32 → Prop} {p : Int32} (h0 : ¬ p < 0) (h1 : ¬ (p - p / 65 * 65) ≤ (p / 65)) (h : P 1) : wpX_isStretch P () p :=
  br_f h0 ⟨by decide, by decide, br_f h1 h⟩
theorem ta_unfit {P : Int32 → Prop} {p : Int32} (hp : p < 0 ∨ (p - p / 65 * 65) ≤ (p / 65)) (h : P 0) : wpX_isStretch P () p :=
  br_c (fun _ => h) (fun n => ⟨by decide, by decide, br_t (hp.resolve_left n) h⟩)
theorem ta_cl (hk : k < 3) : (nI k).toNatClampNeg = k := nI_clamp (by omega)
theorem ta_32 : (32 : Int32) * nI k = nI (32 * k) := pk_mul 32 k
theorem ta_32a {x : Int32} {n : Nat} (h : x = nI n) : (32 : Int32) * nI k + x = nI (32 * k + n) := by
  rw [h, ta_32, nI_add]
/-! the steps are set to 0 -/
theorem ta_zero {post : St2 → Prop} (H : ∀ z : Nat → Int32, (∀ j, j < 65 → z j = 0) → ∃ fu, wX_countSteps_26 post (nI k) r o c b fu (nI (32 * k)) a1 a2 a3 a4 a5 a6 a7 a8 a9 a10 a11 a12 a13 z) :
    wpX_countSteps post (r, o, c, b, a1, a2, a3, a4, a5, a6, a7, a8, a9, a10, a11, a12, a13, a14) (nI k) :=
  pk_loop (fun n i s => wX_countSteps_2 post (nI k) r o c b n (nI i) a1 a2 a3 a4 a5 a6 a7 a8 a9 a10 a11 a12 a13 s) (fun i s => ∀ j, j < i → s j = 0) 65 0 a14 (by omega) (fun j hj => absurd hj (by omega))
    (fun n s h => pk_lt 64 65 (fun _ => nm_r ta_32 (H s h)) (fun z => absurd z (by omega)))
    (fun n i s hi h hw => pk_lt 64 i (fun z => absurd z (by omega)) (fun _ => ⟨pk_in i 65 hi, nm_e (nm_r (nI_1 i) (hw _ (fun j hj => by
      rw [nI_clamp (by omega)]
      by_cases e : j = i
      · rw [e, pk_us]
      · rw [pk_un e]
        exact h j (by omega))))⟩))
/-! deepest: N is the count ahead of p, M the most so far -/
theorem ta_most {post : Int32 → St2 → Prop} {N M : Nat → Int32} (hN : ∀ i, i < 64 → N i + a14 i = N (i + 1)) (hM : ∀ i, i < 64 → (N (i + 1) ≤ M i → M (i + 1) = M i) ∧ (¬ N (i + 1) ≤ M i → M (i + 1) = N (i + 1)))
    (H : post (M 64) (r, o, c, b, a1, a2, a3, a4, a5, a6, a7, a8, a9, a10, a11, a12, a13, a14)) :
    ∃ n, wX_deepest_21 post r o c b a1 a2 a3 a4 a5 a6 a7 a8 a9 a10 a11 a12 a13 a14 n (N 0) (M 0) 0 :=
  pk_loop (σ := Unit) (fun n i _ => wX_deepest_21 post r o c b a1 a2 a3 a4 a5 a6 a7 a8 a9 a10 a11 a12 a13 a14 n (N i) (M i) (nI i)) (fun _ _ => True) 64 0 () (by omega) trivial
    (fun n _ _ => pk_le 64 64 (fun _ => H) (fun z => absurd z (by omega)))
    (fun n i _ hi _ hw => pk_le 64 i (fun z => absurd z (by omega)) (fun _ => ⟨pk_in i 65 (by omega), nm_r (e' := N (i + 1)) (by rw [nI_clamp (by omega)]; exact hN i hi) (br_c
      (fun g => nm_r (nI_1 i) (by
        have t := hw () trivial
        rw [(hM i hi).1 g] at t
        exact t))
      (fun g => nm_r (nI_1 i) (by
        have t := hw () trivial
        rw [(hM i hi).2 g] at t
        exact t)))⟩))
theorem ta_deep0 {post : Int32 → St2 → Prop} (hk : k < 3) (h3 : a3 k = 0) (H : ∀ z : Nat → Int32, post 0 (r, o, c, b, a1, a2, a3, a4, a5, a6, a7, a8, a9, a10, a11, a12, a13, z)) :
    wpX_deepest post (r, o, c, b, a1, a2, a3, a4, a5, a6, a7, a8, a9, a10, a11, a12, a13, a14) (nI k) := by
  unfold wpX_deepest
  refine ta_track hk (br_f (by decide) (ta_zero (fun z hz => ⟨1, pk_in k 3 hk, br_t ?_ ?_⟩)))
  · rw [ta_cl hk, h3, ta_32, Int32.add_zero]
    exact Int32.le_refl _
  · exact ta_most (N := fun _ => 0) (M := fun _ => 0) (fun i hi => by
      show 0 + z i = 0
      rw [hz i (by omega)]
      rfl) (fun i hi => ⟨fun _ => rfl, fun _ => rfl⟩) (H z)
theorem ta_deep1 {post : Int32 → St2 → Prop} {s e : Nat} (hk : k < 3) (h3 : a3 k = 1) (h1 : a1 (32 * k) = nI s) (h2 : a2 (32 * k) = nI e) (hse : s < e) (he : e ≤ 64) (H : ∀ z : Nat → Int32, post 1 (r, o, c, b, a1, a2, a3, a4, a5, a6, a7, a8, a9, a10, a11, a12, a13, z)) :
    wpX_deepest post (r, o, c, b, a1, a2, a3, a4, a5, a6, a7, a8, a9, a10, a11, a12, a13, a14) (nI k) := by
  have hc : (32 : Int32) * nI k + a3 (nI k).toNatClampNeg = nI (32 * k + 1) := by
    rw [ta_cl hk]
    exact ta_32a h3
  have g1 : a1 (nI (32 * k)).toNatClampNeg = nI s := by rw [nI_clamp (by omega), h1]
  have g2 : a2 (nI (32 * k)).toNatClampNeg = nI e := by rw [nI_clamp (by omega), h2]
  unfold wpX_deepest
  refine ta_track hk (br_f (by decide) (ta_zero (fun z hz => ⟨2, pk_in k 3 hk, br_f ?_ ⟨pk_in (32 * k) 96 (by omega), ?_, ?_, ?_⟩⟩)))
  · rw [hc]
    exact nI_ge (by omega) (by omega)
  · rw [g1]
    exact pk_in s 65 (by omega)
  · rw [g1]
    exact pk_in s 65 (by omega)
  · rw [g1, nI_clamp (by omega), hz s (by omega)]
    refine nm_e ⟨pk_in (32 * k) 96 (by omega), ?_, ?_, ?_⟩
    · rw [g2]
      exact pk_in e 65 (by omega)
    · rw [g2]
      exact pk_in e 65 (by omega)
    · rw [g2, nI_clamp (by omega), pk_un (by omega), hz e (by omega)]
      refine nm_e (nm_r (nI_1 (32 * k)) ⟨pk_in k 3 hk, br_t ?_ ?_⟩)
      · rw [hc]
        exact Int32.le_refl _
      · refine ta_most (N := fun i => if s < i ∧ i ≤ e then 1 else 0) (M := fun i => if s < i then 1 else 0) (fun i hi => ?_) (fun i hi => ?_) ?_
        · by_cases e1 : i = e
          · subst e1
            rw [pk_us, if_pos (by omega), if_neg (by omega)]
            decide
          · rw [pk_un e1]
            by_cases e2 : i = s
            · subst e2
              rw [pk_us, if_neg (by omega), if_pos (by omega)]
              decide
            · rw [pk_un e2, hz i (by omega), Int32.add_zero]
              by_cases e3 : s < i ∧ i ≤ e
              · rw [if_pos e3, if_pos (by omega)]
              · rw [if_neg e3, if_neg (by omega)]
        · by_cases e3 : s < i + 1
          · rw [if_pos e3]
            by_cases e4 : s < i
            · rw [if_pos e4]
              refine ⟨fun _ => rfl, fun g => ?_⟩
              by_cases e5 : s < i + 1 ∧ i + 1 ≤ e
              · rw [if_pos e5]
              · rw [if_neg e5] at g
                exact absurd (show (0 : Int32) ≤ 1 by decide) g
            · rw [if_neg e4, if_pos (by omega)]
              exact ⟨fun g => absurd g (by decide), fun _ => rfl⟩
          · rw [if_neg e3, if_neg (by omega), if_neg (by omega)]
            exact ⟨fun _ => rfl, fun _ => rfl⟩
        · rw [if_pos (by omega)]
          exact H _
end
end
section
/-! ===== add, size, stretch, remove on a track of 0 or 1 stretches ===== -/
section
variable {r o c b : Int32} {a1 a2 a3 a4 a5 a6 a7 a8 a9 a10 a11 a12 a13 a14 : Nat → Int32} {k : Nat}
theorem ta_insert {post : St2 → Prop} {x y : Int32} (hk : k < 3) (h3 : a3 k = 0) (H : post (r, o, c, -1, upd a1 (32 * k) x, upd a2 (32 * k) y, upd a3 k 1, a4, a5, a6, a7, a8, a9, a10, a11, a12, a13, a14)) :
    wpX_insert post (r, o, c, b, a1, a2, a3, a4, a5, a6, a7, a8, a9, a10, a11, a12, a13, a14) (nI k) x y := by
  refine ⟨pk_in k 3 hk, nm_r (e' := nI (32 * k)) ?_ ⟨1, br_t ?_ ⟨pk_in (32 * k) 96 (by omega), nm_r (e' := upd a1 (32 * k) x) ?_ ⟨pk_in (32 * k) 96 (by omega), nm_r (e' := upd a2 (32 * k) y) ?_ ⟨pk_in k 3 hk, pk_in k 3 hk, nm_r (e' := upd a3 k 1) ?_ H⟩⟩⟩⟩⟩
  · rw [ta_cl hk, h3, ta_32, Int32.add_zero]
  · rw [ta_32]
    exact Int32.le_refl _
  · rw [nI_clamp (by omega)]
  · rw [nI_clamp (by omega)]
  · rw [ta_cl hk, h3]
    rfl
theorem ta_add {post : Int32 → St2 → Prop} {p : Int32} (hk : k < 3) (h0 : ¬ p < 0) (h1 : ¬ (p - p / 65 * 65) ≤ (p / 65)) (h3 : a3 k = 0)
    (H : post 1 (r, o, c, -1, upd a1 (32 * k) (p / 65), upd a2 (32 * k) (p - p / 65 * 65), upd a3 k 1, a4, a5, a6, a7, a8, a9, a10, a11, a12, a13, a14)) :
    wpX_add post (r, o, c, b, a1, a2, a3, a4, a5, a6, a7, a8, a9, a10, a11, a12, a13, a14) (nI k) p := by
  unfold wpX_add
  refine ta_track hk (br_f (by decide) (ta_fit h0 h1 (br_f (by decide) ⟨pk_in k 3 hk, br_f ?_ ⟨by decide, by decide, ta_insert hk h3 ⟨pk_in k 3 hk, ?_⟩⟩⟩)))
  · rw [ta_cl hk, h3]
    decide
  · rw [ta_cl hk, pk_us]
    exact H
theorem ta_addNo {post : Int32 → St2 → Prop} {u : St2} {p : Int32} (hk : k < 3) (hp : p < 0 ∨ (p - p / 65 * 65) ≤ (p / 65)) (H : post (-2) u) : wpX_add post u (nI k) p := by
  obtain ⟨r, o, c, b, a1, a2, a3, a4, a5, a6, a7, a8, a9, a10, a11, a12, a13, a14⟩ := u
  unfold wpX_add
  exact ta_track hk (br_f (by decide) (ta_unfit hp (br_t rfl H)))
theorem ta_size {post : Int32 → Prop} (hk : k < 3) (H : post (a3 k)) : wpX_size post (r, o, c, b, a1, a2, a3, a4, a5, a6, a7, a8, a9, a10, a11, a12, a13, a14) (nI k) := by
  unfold wpX_size
  refine ta_track hk (br_f (by decide) ⟨pk_in k 3 hk, ?_⟩)
  rw [ta_cl hk]
  exact H
theorem ta_stretch0 {post : Int32 → Prop} {i : Int32} (hk : k < 3) (h3 : a3 k = 0) (H : post (-2)) : wpX_stretch post (r, o, c, b, a1, a2, a3, a4, a5, a6, a7, a8, a9, a10, a11, a12, a13, a14) (nI k) i := by
  unfold wpX_stretch
  refine ta_track hk (br_f (by decide) (br_c (fun _ => H) (fun n => ⟨pk_in k 3 hk, br_t ?_ H⟩)))
  rw [ta_cl hk, h3]
  exact Int32.not_lt.mp n
theorem ta_pos {i : Int32} (h0 : ¬ i < 0) (hi : ¬ i = 0) : (1 : Int32) ≤ i := by
  obtain ⟨j, hj, rfl⟩ := nI_of h0
  refine nI_le (a := 1) ?_ hj
  rcases Nat.eq_zero_or_pos j with z | z
  · subst z
    exact absurd nI_0 hi
  · exact z
theorem ta_stretch1 {post : Int32 → Prop} {i : Int32} (hk : k < 3) (h3 : a3 k = 1) (h : i = 0 → post (65 * a1 (32 * k) + a2 (32 * k))) (H : ¬ i = 0 → post (-2)) : wpX_stretch post (r, o, c, b, a1, a2, a3, a4, a5, a6, a7, a8, a9, a10, a11, a12, a13, a14) (nI k) i := by
  unfold wpX_stretch
  refine ta_track hk (br_f (by decide) ?_)
  by_cases e : i = 0
  · subst e
    have g : (32 : Int32) * nI k + 0 = nI (32 * k) := by rw [Int32.add_zero, ta_32]
    refine br_f (by decide) ⟨pk_in k 3 hk, br_f ?_ ⟨pk_in (32 * k) 96 (by omega) g, pk_in (32 * k) 96 (by omega) g, ?_⟩⟩
    · rw [ta_cl hk, h3]
      decide
    · rw [g, nI_clamp (by omega)]
      exact h rfl
  · refine br_c (fun _ => H e) (fun n => ⟨pk_in k 3 hk, br_t ?_ (H e)⟩)
    rw [ta_cl hk, h3]
    exact ta_pos n e
theorem ta_remove0 {post : Int32 → St2 → Prop} {i : Int32} (hk : k < 3) (h3 : a3 k = 0) (H : post (-2) (r, o, c, b, a1, a2, a3, a4, a5, a6, a7, a8, a9, a10, a11, a12, a13, a14)) :
    wpX_remove post (r, o, c, b, a1, a2, a3, a4, a5, a6, a7, a8, a9, a10, a11, a12, a13, a14) (nI k) i := by
  unfold wpX_remove
  refine ta_track hk (br_f (by decide) (br_c (fun _ => H) (fun n => ⟨pk_in k 3 hk, br_f ?_ H⟩)))
  rw [ta_cl hk, h3]
  exact Int32.not_lt.mpr (Int32.not_lt.mp n)
theorem ta_drop {post : St2 → Prop} (hk : k < 3) (h3 : a3 k = 1) (H : post (r, o, c, -1, a1, a2, upd a3 k 0, a4, a5, a6, a7, a8, a9, a10, a11, a12, a13, a14)) :
    wpX_drop post (r, o, c, b, a1, a2, a3, a4, a5, a6, a7, a8, a9, a10, a11, a12, a13, a14) (nI k) 0 := by
  refine nm_r (e' := nI (32 * k + 1)) ?_ ⟨1, pk_in k 3 hk, br_t ?_ ⟨pk_in k 3 hk, pk_in k 3 hk, nm_r (e' := upd a3 k 0) ?_ H⟩⟩
  · rw [Int32.add_zero, ta_32, nI_1]
  · rw [ta_cl hk, ta_32a (n := 1) h3]
    exact Int32.le_refl _
  · rw [ta_cl hk, h3]
    rfl
theorem ta_remove1 {post : Int32 → St2 → Prop} {i : Int32} (hk : k < 3) (h3 : a3 k = 1) (h : i = 0 → post 0 (r, o, c, -1, a1, a2, upd a3 k 0, a4, a5, a6, a7, a8, a9, a10, a11, a12, a13, a14)) (H : ¬ i = 0 → post (-2) (r, o, c, b, a1, a2, a3, a4, a5, a6, a7, a8, a9, a10, a11, a12, a13, a14)) :
    wpX_remove post (r, o, c, b, a1, a2, a3, a4, a5, a6, a7, a8, a9, a10, a11, a12, a13, a14) (nI k) i := by
  unfold wpX_remove
  refine ta_track hk (br_f (by decide) ?_)
  by_cases e : i = 0
  · subst e
    refine br_f (by decide) ⟨pk_in k 3 hk, br_t ?_ (ta_drop hk h3 ⟨pk_in k 3 hk, ?_⟩)⟩
    · rw [ta_cl hk, h3]
      decide
    · rw [ta_cl hk, pk_us]
      exact h rfl
  · refine br_c (fun _ => H e) (fun n => ⟨pk_in k 3 hk, br_f ?_ (H e)⟩)
    rw [ta_cl hk, h3]
    exact Int32.not_lt.mpr (ta_pos n e)
end
end
section
/-! ===== build, findHits, depth on a track of 0 or 1 stretches ===== -/
theorem ta_c0 : ((-1 : Int32) + 1).toNatClampNeg = 0 := by decide
theorem ta_c1 : ((0 : Int32) + 1).toNatClampNeg = 1 := by decide
theorem ta_cz : (0 : Int32).toNatClampNeg = 0 := by decide
theorem ta_in0 : vp_in ((-1 : Int32) + 1) 33 := vp_in_iff.mpr (by decide)
theorem ta_in1 : vp_in ((0 : Int32) + 1) 33 := vp_in_iff.mpr (by decide)
theorem ta_inz {n : Nat} (h : 0 < n) (hn : n < 2 ^ 31) : vp_in (0 : Int32) n := vp_in_nI (n := 0) h hn
section
variable {r o c b : Int32} {a1 a2 a3 a4 a5 a6 a7 a8 a9 a10 a11 a12 a13 a14 : Nat → Int32} {k : Nat}
theorem ta_m1 (hk : k < 3) : ¬ (-1 : Int32) = nI k := by
  intro h
  have := nI_pos (n := k) (by omega)
  rw [← h] at this
  exact this (by decide)
theorem ta_build0 {post : St2 → Prop} (hk : k < 3) (h3 : a3 k = 0)
    (H : ∀ f g : Nat → Int32, f 0 = 0 → g 0 = 0 → post (r, o, c, nI k, a1, a2, a3, a4, a5, f, g, a8, a9, a10, a11, a12, a13, a14)) :
    wpX_build post (r, o, c, -1, a1, a2, a3, a4, a5, a6, a7, a8, a9, a10, a11, a12, a13, a14) (nI k) := by
  have h3' : a3 (nI k).toNatClampNeg = 0 := by rw [ta_cl hk, h3]
  refine br_f (ta_m1 hk) ⟨1, pk_in k 3 hk, br_t ?_ ⟨2, pk_in k 3 hk, br_f ?_ ⟨ta_in0, nm_r (e' := upd a6 0 0) (by rw [ta_c0]) (nm_r (e' := 0) (by decide) ⟨1, pk_in k 3 hk, br_t ?_ ⟨ta_in0, ta_in0, nm_r (e' := upd a7 0 0) ?_ (nm_r (e' := 0) (by decide) ⟨pk_in k 3 hk, br_t ?_ ?_⟩)⟩⟩)⟩⟩⟩
  · rw [h3']
    decide
  · rw [h3']
    decide
  · rw [h3']
    decide
  · rw [ta_c0, pk_us]
    rfl
  · rw [h3']
    decide
  · exact H _ _ pk_us pk_us
theorem ta_build1 {post : St2 → Prop} (hk : k < 3) (h3 : a3 k = 1)
    (H : ∀ d e f g i : Nat → Int32, e 0 = 0 → f 0 = 0 → g 0 = 1 → g 1 = 0 → post (r, o, c, nI k, a1, a2, a3, d, e, f, g, a8, i, a10, a11, a12, a13, a14)) :
    wpX_build post (r, o, c, -1, a1, a2, a3, a4, a5, a6, a7, a8, a9, a10, a11, a12, a13, a14) (nI k) := by
  have h3' : a3 (nI k).toNatClampNeg = 1 := by rw [ta_cl hk, h3]
  refine br_f (ta_m1 hk) ⟨2, pk_in k 3 hk, br_f (by rw [h3']; decide) ⟨1, br_t (by decide) (br_t (by decide) ⟨ta_inz (by decide) (by decide), nm_r (e' := upd a4 0 (-1)) (by rw [ta_cz]) ⟨ta_inz (by decide) (by decide), nm_r (e' := upd a9 0 0) (by rw [ta_cz]) (nm_r (e' := 1) (by decide) (nm_r (e' := 1) (by decide) ?_))⟩⟩)⟩⟩
  refine ⟨pk_in k 3 hk, br_t (by rw [h3']; decide) ⟨3, pk_in k 3 hk, br_f (by rw [h3']; decide) ⟨ta_in0, nm_r (e' := upd a6 0 0) (by rw [ta_c0]) (nm_r (e' := 0) (by decide) ⟨2, pk_in k 3 hk, br_f (by rw [h3']; decide) ⟨ta_inz (by decide) (by decide), br_t (by rw [ta_cz, pk_us]) ⟨ta_inz (by decide) (by decide), nm_r (e' := upd a5 0 0) (by rw [ta_cz]) (nm_r (e' := 1) (by decide) (nm_r (e' := 1) (by decide) ?_))⟩⟩⟩)⟩⟩⟩
  refine ⟨pk_in k 3 hk, br_t (by rw [h3']; decide) ⟨ta_in0, ta_in0, nm_r (e' := upd a7 0 1) (by rw [ta_c0, pk_us]; rfl) (nm_r (e' := 0) (by decide) ?_)⟩⟩
  refine ⟨pk_in k 3 hk, br_f (by rw [h3']; decide) ⟨ta_in1, nm_r (e' := upd (upd a6 0 0) 1 1) (by rw [ta_c1]) (nm_r (e' := 1) (by decide) ⟨1, pk_in k 3 hk, br_t (by rw [h3']; decide) ⟨ta_in1, ta_in1, nm_r (e' := upd (upd a7 0 1) 1 0) (by rw [ta_c1, pk_us]; rfl) (nm_r (e' := 1) (by decide) ?_)⟩⟩)⟩⟩
  refine ⟨pk_in k 3 hk, br_t (by rw [h3']; decide) (H _ _ _ _ _ pk_us ?_ ?_ pk_us)⟩
  · rw [pk_un (by decide), pk_us]
  · rw [pk_un (by decide), pk_us]
/-! no stretch: no hit -/
theorem ta_find0 {post : St2 → Prop} {x y : Int32} (hk : k < 3) (h3 : a3 k = 0)
    (H : ∀ b d e f g i : Nat → Int32, post (r, o, 0, nI k, a1, a2, a3, b, d, e, f, g, i, a10, a11, a12, a13, a14)) :
    wpX_findHits post (r, o, c, -1, a1, a2, a3, a4, a5, a6, a7, a8, a9, a10, a11, a12, a13, a14) (nI k) x y := by
  unfold wpX_findHits
  refine ta_build0 hk h3 (fun f g hf hg => nm_e ⟨2, br_f (by decide) (br_f (by decide) (nm_r (e' := 0) (by decide) ⟨ta_inz (by decide) (by decide), nm_r (e' := -1) (by rw [ta_cz, pk_us]) ⟨ta_in0, ta_in0, nm_r (e' := 0) (by rw [ta_c0, hf, hg]; rfl) ?_⟩⟩))⟩)
  refine ⟨ta_in0, nm_r (e' := 0) (by rw [ta_c0, hf]) ⟨ta_in0, nm_r (e' := 0) (by rw [ta_c0, hg]; rfl) ⟨1, br_f (by decide) (br_t (by decide) ⟨1, br_t (by decide) (nm_r (e' := 1) (by decide) ?_)⟩)⟩⟩⟩
  exact br_f (by decide) (br_t (by decide) (H _ _ _ _ _ _))
/-! one stretch: one hit, or none -/
theorem ta_find1 {post : St2 → Prop} {x y : Int32} (hk : k < 3) (h3 : a3 k = 1)
    (h : ¬ a2 (32 * k) ≤ x → ¬ y ≤ a1 (32 * k) → ∀ b d e f g i : Nat → Int32, post (r, o, 1, nI k, a1, a2, a3, b, d, e, f, g, i, a10, a11, a12, a13, a14))
    (H : a2 (32 * k) ≤ x ∨ y ≤ a1 (32 * k) → ∀ b d e f g i : Nat → Int32, post (r, o, 0, nI k, a1, a2, a3, b, d, e, f, g, i, a10, a11, a12, a13, a14)) :
    wpX_findHits post (r, o, c, -1, a1, a2, a3, a4, a5, a6, a7, a8, a9, a10, a11, a12, a13, a14) (nI k) x y := by
  unfold wpX_findHits
  refine ta_build1 hk h3 (fun d e f g i he hf hg hg1 => nm_e ⟨2, br_f (by decide) (br_f (by decide) (nm_r (e' := 0) (by decide) ⟨ta_inz (by decide) (by decide), nm_r (e' := -1) (by rw [ta_cz, pk_us]) ⟨ta_in0, ta_in0, nm_r (e' := 1) (by rw [ta_c0, hf, hg]; rfl) ?_⟩⟩))⟩)
  have q : (32 : Int32) * nI k + e (0 : Int32).toNatClampNeg = nI (32 * k) := by rw [ta_cz, he, Int32.add_zero, ta_32]
  have q' : ((32 : Int32) * nI k + e (0 : Int32).toNatClampNeg).toNatClampNeg = 32 * k := by rw [q, nI_clamp (by omega)]
  refine ⟨ta_in0, nm_r (e' := 0) (by rw [ta_c0, hf]) ⟨ta_in0, nm_r (e' := 1) (by rw [ta_c0, hg]; rfl) ⟨2, br_f (by decide) (br_f (by decide) (nm_r (e' := 0) (by decide) ⟨ta_inz (by decide) (by decide), pk_in (32 * k) 96 (by omega) q, br_c (fun t => ?_) (fun t => ?_)⟩))⟩⟩⟩
  · rw [q'] at t
    refine nm_r (e' := 1) (by decide) (nm_r (e' := 1) (by decide) (br_f (by decide) (br_t (by decide) ⟨1, br_t (by decide) (nm_r (e' := 1) (by decide) ?_)⟩)))
    exact br_f (by decide) (br_t (by decide) (H (Or.inl t) _ _ _ _ _ _))
  · rw [q'] at t
    refine nm_r (e' := 1) (by decide) (br_f (by decide) (br_t (by decide) ⟨2, br_f (by decide) ⟨ta_inz (by decide) (by decide), pk_in (32 * k) 96 (by omega) q, br_c (fun v => ?_) (fun v => ?_)⟩⟩))
    · rw [q'] at v
      refine nm_r (e' := 1) (by decide) ?_
      exact br_f (by decide) (br_t (by decide) (H (Or.inr v) _ _ _ _ _ _))
    · rw [q'] at v
      refine ⟨ta_inz (by decide) (by decide), nm_r (e' := 0) (by rw [ta_cz, he]) ⟨1, br_t (by decide) ⟨ta_inz (by decide) (by decide), nm_e (nm_r (e' := 1) (by decide) ⟨ta_in1, br_t (by rw [ta_c1, hg1]; decide) (nm_r (e' := 1) (by decide) (br_t (by decide) (nm_r (e' := 1) (by decide) ?_)))⟩)⟩⟩⟩
      exact br_f (by decide) (br_t (by decide) (h t v _ _ _ _ _ _))
theorem ta_depthOut {post : Int32 → St2 → Prop} {u : St2} {p : Int32} (hk : k < 3) (hp : p < 0 ∨ ¬ p < 64) (H : post (-2) u) : wpX_depth post u (nI k) p := by
  obtain ⟨r, o, c, b, a1, a2, a3, a4, a5, a6, a7, a8, a9, a10, a11, a12, a13, a14⟩ := u
  unfold wpX_depth
  exact ta_track hk (br_f (by decide) (br_c (fun _ => H) (fun n => br_f (hp.resolve_left n) H)))
theorem ta_depth0 {post : Int32 → St2 → Prop} {p : Int32} (hk : k < 3) (hp : ¬ p < 0) (hp' : p < 64) (h3 : a3 k = 0)
    (H : ∀ b d e f g i : Nat → Int32, post 0 (r, o, 0, nI k, a1, a2, a3, b, d, e, f, g, i, a10, a11, a12, a13, a14)) :
    wpX_depth post (r, o, c, -1, a1, a2, a3, a4, a5, a6, a7, a8, a9, a10, a11, a12, a13, a14) (nI k) p := by
  unfold wpX_depth
  exact ta_track hk (br_f (by decide) (br_f hp (br_t hp' (ta_find0 hk h3 H))))
theorem ta_depth1 {post : Int32 → St2 → Prop} {p : Int32} (hk : k < 3) (hp : ¬ p < 0) (hp' : p < 64) (h3 : a3 k = 1)
    (h : ¬ a2 (32 * k) ≤ p → ¬ p + 1 ≤ a1 (32 * k) → ∀ b d e f g i : Nat → Int32, post 1 (r, o, 1, nI k, a1, a2, a3, b, d, e, f, g, i, a10, a11, a12, a13, a14))
    (H : a2 (32 * k) ≤ p ∨ p + 1 ≤ a1 (32 * k) → ∀ b d e f g i : Nat → Int32, post 0 (r, o, 0, nI k, a1, a2, a3, b, d, e, f, g, i, a10, a11, a12, a13, a14)) :
    wpX_depth post (r, o, c, -1, a1, a2, a3, a4, a5, a6, a7, a8, a9, a10, a11, a12, a13, a14) (nI k) p := by
  unfold wpX_depth
  exact ta_track hk (br_f (by decide) (br_f hp (br_t hp' (ta_find1 hk h3 h H))))
end
end
section
/-! ===== the law: a track that isn't one; a stretch that isn't one; both are ===== -/
section
variable {mc ms kc ks : Nat} {x0 x1 x2 x3 x5 z0 z1 : Int32} {r o c b : Int32} {a1 a2 a3 a4 a5 a6 a7 a8 a9 a10 a11 a12 a13 a14 : Nat → Int32} {k : Nat}
/-! no track: every method answers -1 and keeps the state -/
theorem tb_add {post : Int32 → St2 → Prop} (hp : x0 < 0 ∨ 2 < x0) (H : post (-1) (r, o, c, b, a1, a2, a3, a4, a5, a6, a7, a8, a9, a10, a11, a12, a13, a14)) : wpX_add post (r, o, c, b, a1, a2, a3, a4, a5, a6, a7, a8, a9, a10, a11, a12, a13, a14) x0 x1 := by
  unfold wpX_add
  exact ta_bad hp (br_t rfl H)
theorem tb_size {post : Int32 → Prop} (hp : x0 < 0 ∨ 2 < x0) (H : post (-1)) : wpX_size post (r, o, c, b, a1, a2, a3, a4, a5, a6, a7, a8, a9, a10, a11, a12, a13, a14) x0 := by
  unfold wpX_size
  exact ta_bad hp (br_t rfl H)
theorem tb_stretch {post : Int32 → Prop} (hp : x0 < 0 ∨ 2 < x0) (H : post (-1)) : wpX_stretch post (r, o, c, b, a1, a2, a3, a4, a5, a6, a7, a8, a9, a10, a11, a12, a13, a14) x0 x1 := by
  unfold wpX_stretch
  exact ta_bad hp (br_t rfl H)
theorem tb_depth {post : Int32 → St2 → Prop} (hp : x0 < 0 ∨ 2 < x0) (H : post (-1) (r, o, c, b, a1, a2, a3, a4, a5, a6, a7, a8, a9, a10, a11, a12, a13, a14)) : wpX_depth post (r, o, c, b, a1, a2, a3, a4, a5, a6, a7, a8, a9, a10, a11, a12, a13, a14) x0 x1 := by
  unfold wpX_depth
  exact ta_bad hp (br_t rfl H)
theorem tb_remove {post : Int32 → St2 → Prop} (hp : x0 < 0 ∨ 2 < x0) (H : post (-1) (r, o, c, b, a1, a2, a3, a4, a5, a6, a7, a8, a9, a10, a11, a12, a13, a14)) : wpX_remove post (r, o, c, b, a1, a2, a3, a4, a5, a6, a7, a8, a9, a10, a11, a12, a13, a14) x0 x1 := by
  unfold wpX_remove
  exact ta_bad hp (br_t rfl H)
theorem tb_deepest {post : Int32 → St2 → Prop} (hp : x0 < 0 ∨ 2 < x0) (H : post (-1) (r, o, c, b, a1, a2, a3, a4, a5, a6, a7, a8, a9, a10, a11, a12, a13, a14)) : wpX_deepest post (r, o, c, b, a1, a2, a3, a4, a5, a6, a7, a8, a9, a10, a11, a12, a13, a14) x0 := by
  unfold wpX_deepest
  exact ta_bad hp (br_t rfl H)
theorem tb_287 (hp : x0 < 0 ∨ 2 < x0) : wL_lawOf_287 (fun r _ => r = 1) mc ms x0 x2 0 0 (-1) (-1) kc ks r o c b a1 a2 a3 a4 a5 a6 a7 a8 a9 a10 a11 a12 a13 a14 :=
  br_t rfl (tb_deepest hp (br_t rfl (br_t rfl rfl)))
theorem tb_247 (hp : x0 < 0 ∨ 2 < x0) : wL_lawOf_247 (fun r _ => r = 1) mc ms x0 x2 0 0 (-1) (-1) kc ks r o c b a1 a2 a3 a4 a5 a6 a7 a8 a9 a10 a11 a12 a13 a14 :=
  br_t rfl (tb_remove hp (br_t rfl (tb_287 hp)))
theorem tb_169 (hp : x0 < 0 ∨ 2 < x0) : wL_lawOf_169 (fun r _ => r = 1) mc ms x0 x1 x2 x3 0 0 (-1) (-1) kc ks r o c b a1 a2 a3 a4 a5 a6 a7 a8 a9 a10 a11 a12 a13 a14 :=
  br_t rfl (tb_depth hp (br_t rfl (br_t rfl (tb_247 hp))))
theorem tb_129 (hp : x0 < 0 ∨ 2 < x0) : wL_lawOf_129 (fun r _ => r = 1) mc ms x0 x1 x2 x3 0 0 (-1) (-1) kc ks r o c b a1 a2 a3 a4 a5 a6 a7 a8 a9 a10 a11 a12 a13 a14 :=
  br_t rfl (tb_stretch hp (br_t rfl (tb_169 hp)))
theorem tb_95 (hp : x0 < 0 ∨ 2 < x0) : wL_lawOf_95 (fun r _ => r = 1) mc ms x0 x1 x2 x3 0 0 (-1) (-1) kc ks r o c b a1 a2 a3 a4 a5 a6 a7 a8 a9 a10 a11 a12 a13 a14 :=
  br_t rfl (tb_size hp (br_t rfl (tb_129 hp)))
/-! the object is made -/
theorem ta_init {post : St2 → Prop} (H : post (0, 0, 0, -1, fun _ => 0, fun _ => 0, fun _ => 0, fun _ => 0, fun _ => 0, fun _ => 0, fun _ => 0, fun _ => 0, fun _ => 0, fun _ => 0, fun _ => 0, fun _ => 0, fun _ => 0, fun _ => 0)) :
    wpX_init post 14 590 (0, 0, 0, 0) :=
  ⟨by decide, by decide, by decide, by decide, by decide, by decide, by decide, by decide, by decide, by decide, by decide, by decide, by decide, by decide, by decide, by decide, by decide, by decide, by decide, by decide, by decide, by decide, by decide, by decide, by decide, by decide, by decide, by decide, H⟩
theorem tb_53 (hp : x0 < 0 ∨ 2 < x0) : wL_lawOf_53 (fun r _ => r = 1) 336 5376 x0 x1 x2 x3 0 x5 0 0 0 :=
  ⟨by decide, by decide, 14, 590, by decide, by decide, ta_init (tb_add hp (br_t rfl (tb_95 hp)))⟩
/-! the check of the depth's answer -/
theorem ta_209o {P : Int32 → St0 → Prop} {x6 : Int32} (hp : x3 < 0 ∨ ¬ x3 ≤ 63) (h : wL_lawOf_247 P mc ms x0 x2 1 x6 (-2) (-2) kc ks r o c b a1 a2 a3 a4 a5 a6 a7 a8 a9 a10 a11 a12 a13 a14) :
    wL_lawOf_209 P mc ms x0 x2 x3 1 x6 (-2) z0 kc ks r o c b a1 a2 a3 a4 a5 a6 a7 a8 a9 a10 a11 a12 a13 a14 :=
  br_f (by decide) (br_c (fun _ => h) (fun n => br_f (hp.resolve_left n) h))
theorem ta_209i {P : Int32 → St0 → Prop} {x6 x11 : Int32} (hp : ¬ x3 < 0) (hp' : x3 ≤ 63) (h0 : z0 = 0 → wL_lawOf_247 P mc ms x0 x2 1 x6 0 x11 kc ks r o c b a1 a2 a3 a4 a5 a6 a7 a8 a9 a10 a11 a12 a13 a14) (h1 : ¬ z0 = 0 → wL_lawOf_247 P mc ms x0 x2 1 x6 1 x11 kc ks r o c b a1 a2 a3 a4 a5 a6 a7 a8 a9 a10 a11 a12 a13 a14) :
    wL_lawOf_209 P mc ms x0 x2 x3 1 x6 x11 z0 kc ks r o c b a1 a2 a3 a4 a5 a6 a7 a8 a9 a10 a11 a12 a13 a14 :=
  br_f (by decide) (br_f hp (br_t hp' (br_c h0 h1)))
/-! a track, no stretch -/
theorem tn_287 (hk : k < 3) (h3 : a3 k = 0) : wL_lawOf_287 (fun r _ => r = 1) mc ms (nI k) x2 1 0 (-2) (-2) kc ks r o c b a1 a2 a3 a4 a5 a6 a7 a8 a9 a10 a11 a12 a13 a14 :=
  br_t rfl (ta_deep0 hk h3 (fun z => br_f (by decide) (br_t rfl (br_t rfl rfl))))
theorem tn_247 (hk : k < 3) (h3 : a3 k = 0) (hz : z1 = z0) : wL_lawOf_247 (fun r _ => r = 1) mc ms (nI k) x2 1 0 z0 z1 kc ks r o c b a1 a2 a3 a4 a5 a6 a7 a8 a9 a10 a11 a12 a13 a14 :=
  br_t hz (ta_remove0 hk h3 (br_f (by decide) (br_t rfl (tn_287 hk h3))))
theorem ta_p {x : Int32} : (x < 0 ∨ ¬ x < 64) ∧ (x < 0 ∨ ¬ x ≤ 63) ∨ ∃ j : Nat, j < 64 ∧ x = nI j := by
  rcases pk_ix x (n := 64) (by decide) with h | h | h
  · exact Or.inl ⟨Or.inl h, Or.inl h⟩
  · exact Or.inl ⟨Or.inr (Int32.not_lt.mpr h), Or.inr (fun g => absurd (Int32.le_trans h g) (by decide))⟩
  · exact Or.inr h
theorem tn_169 (hk : k < 3) (h3 : a3 k = 0) : wL_lawOf_169 (fun r _ => r = 1) mc ms (nI k) x1 x2 x3 1 0 (-2) (-2) kc ks r o c (-1) a1 a2 a3 a4 a5 a6 a7 a8 a9 a10 a11 a12 a13 a14 := by
  rcases ta_p (x := x3) with ⟨h, h'⟩ | ⟨j, hj, rfl⟩
  · exact br_t rfl (ta_depthOut hk h (br_t rfl (ta_209o h' (tn_247 hk h3 rfl))))
  · exact br_t rfl (ta_depth0 hk (nI_pos (by omega)) (nI_lt (b := 64) hj (by decide)) h3 (fun _ _ _ _ _ _ => br_t rfl (ta_209i (nI_pos (by omega)) (nI_le (b := 63) (by omega) (by decide)) (fun _ => tn_247 hk h3 rfl) (fun n => absurd rfl n))))
theorem tn_95 (hk : k < 3) (h3 : a3 k = 0) : wL_lawOf_95 (fun r _ => r = 1) mc ms (nI k) x1 x2 x3 1 0 (-2) (-2) kc ks r o c (-1) a1 a2 a3 a4 a5 a6 a7 a8 a9 a10 a11 a12 a13 a14 :=
  br_t rfl (ta_size hk (br_f (by decide) (br_t rfl (br_t h3 (ta_stretch0 hk h3 (br_f (by decide) (br_t rfl (tn_169 hk h3))))))))
theorem tn_53 (hk : k < 3) (hf : x1 < 0 ∨ (x1 - x1 / 65 * 65) ≤ (x1 / 65)) : wL_lawOf_53 (fun r _ => r = 1) 336 5376 (nI k) x1 x2 x3 1 0 0 0 0 :=
  ⟨by decide, by decide, 14, 590, by decide, by decide, ta_init (ta_addNo hk hf (br_f (by decide) (br_t rfl (tn_95 hk rfl))))⟩
/-! a track with its one stretch from s to e -/
theorem ti_247 {s e : Nat} (hk : k < 3) (h3 : a3 k = 1) (h1 : a1 (32 * k) = nI s) (h2 : a2 (32 * k) = nI e) (hse : s < e) (he : e ≤ 64) (hz : z1 = z0) :
    wL_lawOf_247 (fun r _ => r = 1) mc ms (nI k) x2 1 1 z0 z1 kc ks r o c b a1 a2 a3 a4 a5 a6 a7 a8 a9 a10 a11 a12 a13 a14 :=
  br_t hz (ta_remove1 hk h3
    (fun g => br_f (by decide) (br_f (by decide) (br_t g (br_t rfl (ta_deep0 hk pk_us (fun z => br_f (by decide) (br_f (by decide) (br_t g (br_t rfl rfl)))))))))
    (fun g => br_f (by decide) (br_f (by decide) (br_f g (br_t rfl (ta_deep1 hk h3 h1 h2 hse he (fun z => br_f (by decide) (br_f (by decide) (br_f g (br_t rfl rfl))))))))))
theorem ti_169 {s e : Nat} (hk : k < 3) (h3 : a3 k = 1) (h1 : a1 (32 * k) = nI s) (h2 : a2 (32 * k) = nI e) (hse : s < e) (he : e ≤ 64) (hq : x1 / 65 = nI s) (hr : x1 - x1 / 65 * 65 = nI e) (hz : z1 = z0) :
    wL_lawOf_169 (fun r _ => r = 1) mc ms (nI k) x1 x2 x3 1 1 z0 z1 kc ks r o c (-1) a1 a2 a3 a4 a5 a6 a7 a8 a9 a10 a11 a12 a13 a14 := by
  rcases ta_p (x := x3) with ⟨h, h'⟩ | ⟨j, hj, rfl⟩
  · have t := fun z => ta_209o (z0 := z) h' (ti_247 (mc := mc) (ms := ms) (kc := kc) (ks := ks) (x2 := x2) (r := r) (o := o) (c := c) (b := -1) (a4 := a4) (a5 := a5) (a6 := a6) (a7 := a7) (a8 := a8) (a9 := a9) (a10 := a10) (a11 := a11) (a12 := a12) (a13 := a13) (a14 := a14) hk h3 h1 h2 hse he rfl)
    exact br_t hz (ta_depthOut hk h (br_f (by decide) ⟨by decide, br_c (fun _ => t 0) (fun _ => ⟨by decide, br_c (fun _ => t 0) (fun _ => t 1)⟩)⟩))
  · have p0 : ¬ nI j < 0 := nI_pos (by omega)
    have p1 : nI j ≤ 63 := nI_le (b := 63) (by omega) (by decide)
    refine br_t hz (ta_depth1 hk p0 (nI_lt (b := 64) hj (by decide)) h3 (fun g2 g1 _ _ _ _ _ _ => ?_) (fun g _ _ _ _ _ _ => ?_))
    · rw [h2, nI_leI (by omega) (by omega)] at g2
      rw [h1, nI_1, nI_leI (by omega) (by omega)] at g1
      refine br_f (by decide) ⟨by decide, ?_⟩
      rw [hr, hq]
      exact pk_lt j s (fun z => absurd z (by omega)) (fun _ => ⟨by decide, pk_le e j (fun z => absurd z (by omega)) (fun _ => ta_209i p0 p1 (fun z => absurd z (by decide)) (fun _ => ti_247 hk h3 h1 h2 hse he rfl))⟩)
    · rw [h2, h1, nI_1, nI_leI (by omega) (by omega), nI_leI (by omega) (by omega)] at g
      refine br_f (by decide) ⟨by decide, ?_⟩
      rw [hr, hq]
      exact pk_lt j s (fun z => ta_209i p0 p1 (fun _ => ti_247 hk h3 h1 h2 hse he rfl) (fun z => absurd rfl z)) (fun z => ⟨by decide, pk_le e j (fun _ => ta_209i p0 p1 (fun _ => ti_247 hk h3 h1 h2 hse he rfl) (fun z => absurd rfl z)) (fun z' => absurd g (by omega))⟩)
theorem ti_95 {s e : Nat} (hk : k < 3) (h3 : a3 k = 1) (h1 : a1 (32 * k) = nI s) (h2 : a2 (32 * k) = nI e) (hse : s < e) (he : e ≤ 64) (hq : x1 / 65 = nI s) (hr : x1 - x1 / 65 * 65 = nI e) (hx : 65 * nI s + nI e = x1) :
    wL_lawOf_95 (fun r _ => r = 1) mc ms (nI k) x1 x2 x3 1 1 1 1 kc ks r o c (-1) a1 a2 a3 a4 a5 a6 a7 a8 a9 a10 a11 a12 a13 a14 :=
  br_t rfl (ta_size hk (br_f (by decide) (br_f (by decide) (br_t h3 (ta_stretch1 hk h3
    (fun g => br_f (by decide) (br_f (by decide) (br_t g (ti_169 hk h3 h1 h2 hse he hq hr (by rw [h1, h2]; exact hx)))))
    (fun g => br_f (by decide) (br_f (by decide) (br_f g (ti_169 hk h3 h1 h2 hse he hq hr rfl)))))))))
theorem ta_split {x : Int32} (h0 : ¬ x < 0) (h1 : ¬ (x - x / 65 * 65) ≤ (x / 65)) : ∃ s e : Nat, s < e ∧ e ≤ 64 ∧ x / 65 = nI s ∧ x - x / 65 * 65 = nI e ∧ 65 * nI s + nI e = x := by
  obtain ⟨m, hm, rfl⟩ := nI_of h0
  have q : nI m / 65 = nI (m / 65) := pk_div hm (by decide) (by decide)
  have t : nI m - nI m / 65 * 65 = nI (m % 65) := pk_rem hm (by decide) (by decide)
  rw [t, q, nI_leI (by omega) (by omega)] at h1
  refine ⟨m / 65, m % 65, by omega, by omega, q, t, ?_⟩
  rw [show (65 : Int32) * nI (m / 65) = nI (65 * (m / 65)) from pk_mul 65 (m / 65), nI_add, Nat.div_add_mod]
theorem ti_53 (hk : k < 3) (h0 : ¬ x1 < 0) (h1 : ¬ (x1 - x1 / 65 * 65) ≤ (x1 / 65)) : wL_lawOf_53 (fun r _ => r = 1) 336 5376 (nI k) x1 x2 x3 1 1 1 0 0 := by
  obtain ⟨s, e, hse, he, hq, hr, hx⟩ := ta_split h0 h1
  exact ⟨by decide, by decide, 14, 590, by decide, by decide, ta_init (ta_add hk h0 h1 rfl (br_f (by decide) (br_f (by decide) (ti_95 hk pk_us (pk_us.trans hq) (pk_us.trans hr) hse he hq hr hx))))⟩
/-! the whole -/
theorem ta_14 {P : Int32 → St0 → Prop} (H0 : (x1 < 0 ∨ (x1 - x1 / 65 * 65) ≤ (x1 / 65)) → wL_lawOf_36 P mc ms x0 x1 x2 x3 z0 0 kc ks) (H1 : ¬ x1 < 0 → ¬ (x1 - x1 / 65 * 65) ≤ (x1 / 65) → wL_lawOf_36 P mc ms x0 x1 x2 x3 z0 1 kc ks) : wL_lawOf_14 P mc ms x0 x1 x2 x3 z0 kc ks :=
  br_c (fun h => H0 (Or.inl h)) (fun h => ⟨by decide, by decide, br_c (fun g => H0 (Or.inr g)) (fun g => H1 h g)⟩)
theorem ta_law (t x i p : Int32) : wpL_lawOf (fun r _ => r = 1) 336 5376 () t x i p := by
  by_cases hp : t < 0 ∨ 2 < t
  · have h : wL_lawOf_14 (fun r _ => r = 1) 336 5376 t x i p 0 0 0 := ta_14 (fun _ => br_t rfl (tb_53 hp)) (fun _ _ => br_t rfl (tb_53 hp))
    exact br_c (fun _ => h) (fun n => br_t (hp.resolve_left n) h)
  · have n0 : ¬ t < 0 := fun z => hp (Or.inl z)
    have n2 : ¬ 2 < t := fun z => hp (Or.inr z)
    obtain ⟨k, hk, rfl⟩ := nI_of2 (M := 2) (n := 2) (by decide) n0 (Int32.not_lt.mp n2)
    exact br_f n0 (br_f n2 (ta_14 (fun h => br_f (by decide) (br_t rfl (tn_53 (by omega) h))) (fun h0 h1 => br_f (by decide) (br_f (by decide) (ti_53 (by omega) h0 h1)))))
theorem ta_cell {P : Int32 → Prop} {L : Nat} {xs : Nat → Int32} (j : Nat) (hj : j < 4) (hL : L ≤ 4) (H : ∀ v, P v) : wpL_cellAt P L xs () (nI j) :=
  pk_le L j (fun _ => H _) (fun g => ⟨pk_in j L g, H _⟩)
end
theorem i_vc (xs : Nat → Int32) (L : Nat) (hL : L ≤ 4) : wpL_law (fun r => r = 1) L xs :=
  ta_cell 0 (by decide) hL (fun t => ta_cell 1 (by decide) hL (fun x => ta_cell 2 (by decide) hL (fun i => ta_cell 3 (by decide) hL (fun p => ⟨336, 5376, by decide, by decide, ta_law t x i p⟩))))
end
