section
section
variable {f : Int32} {a1 a2 a3 a4 a5 a6 a7 a8 a9 a10 a11 a12 a13 a14 a15 : Nat → Int32}
theorem dt_60 (x : Int32) : 6 * 0 + x = x := by
  rw [Int32.mul_zero, Int32.zero_add]
theorem dt_03 {x : Int32} (h0 : ¬ x < 0) (h3 : ¬ 3 < x) : ∃ j : Nat, j < 4 ∧ x = nI j := by
  obtain ⟨j, hj, rfl⟩ := nI_of h0
  refine ⟨j, ?_, rfl⟩
  rcases Nat.lt_or_ge j 4 with z | z
  · exact z
  · exact absurd (show nI 3 < nI j from nI_lt (by omega) hj) h3
theorem dt_05 {x : Int32} (h0 : ¬ x < 0) (h5 : x ≤ 5) : ∃ j : Nat, j < 6 ∧ x = nI j := by
  obtain ⟨j, hj, e⟩ := nI_of2 (M := 5) (n := 5) (by decide) h0 h5
  exact ⟨j, by omega, e⟩
theorem dt_eq0 {x : Int32} (h0 : ¬ x < 0) (h : x ≤ 0) : x = 0 := by
  obtain ⟨j, hj, e⟩ := nI_of2 (M := 0) (n := 0) (by decide) h0 h
  have ej : j = 0 := by omega
  rw [e, ej, nI_0]
theorem dt_fill {s : Nat → Int32} {i k : Nat} {x : Int32} (hk : k = i) (h : ∀ j, j < i → s j = x) : ∀ j, j < i + 1 → upd s k x j = x := by
  intro j hj
  rw [hk]
  by_cases e : j = i
  · rw [e, pk_us]
  · rw [pk_un e]
    exact h j (by omega)
/-- the second loop of the constructor -/
theorem dt_i147 {post : St2 → Prop} {mc ms kc ks : Nat} (H : ∀ a : Nat → Int32, (∀ j, j < 4 → a j = -1) → post (1, upd a1 0 1, a2, a3, a4, a5, a6, a, a8, a9, a10, a11, a12, a13, a14, a15)) : ∃ n, wX_init_147 post mc ms kc ks f n 0 a1 a2 a3 a4 a5 a6 a7 a8 a9 a10 a11 a12 a13 a14 a15 :=
  pk_loop (fun n i s => wX_init_147 post mc ms kc ks f n (nI i) a1 a2 a3 a4 a5 a6 s a8 a9 a10 a11 a12 a13 a14 a15) (fun i s => ∀ j, j < i → s j = -1) 4 0 a7 (by omega) (fun j hj => absurd hj (by omega))
    (fun n s h => pk_le 4 4 (fun _ => nm_e (H s h)) (fun z => absurd z (by omega)))
    (fun n i s hi h hw => pk_le 4 i (fun z => absurd z (by omega)) (fun _ => ⟨pk_in i 4 hi, nm_e (nm_r (nI_1 i) (hw _ (dt_fill (nI_clamp (by omega)) h)))⟩))
/-- the first loop of the constructor -/
theorem dt_i126 {post : St2 → Prop} {mc ms kc ks : Nat} (H : ∀ b a : Nat → Int32, (∀ j, j < 24 → b j = -1) → (∀ j, j < 4 → a j = -1) → post (1, upd a1 0 1, b, a3, a4, a5, a6, a, a8, a9, a10, a11, a12, a13, a14, a15)) : ∃ n, wX_init_126 post mc ms kc ks f n 0 a1 a2 a3 a4 a5 a6 a7 a8 a9 a10 a11 a12 a13 a14 a15 :=
  pk_loop (fun n i s => wX_init_126 post mc ms kc ks f n (nI i) a1 s a3 a4 a5 a6 a7 a8 a9 a10 a11 a12 a13 a14 a15) (fun i s => ∀ j, j < i → s j = -1) 24 0 a2 (by omega) (fun j hj => absurd hj (by omega))
    (fun n s h => pk_le 24 24 (fun _ => dt_i147 (fun a ha => H s a h ha)) (fun z => absurd z (by omega)))
    (fun n i s hi h hw => pk_le 24 i (fun z => absurd z (by omega)) (fun _ => ⟨pk_in i 24 hi, nm_e (nm_r (nI_1 i) (hw _ (dt_fill (nI_clamp (by omega)) h)))⟩))
theorem dt_init {post : St2 → Prop} {mc ms : Nat} {x : Int32} (hc : 15 ≤ mc) (hs : 648 ≤ ms)
    (H : ∀ b a : Nat → Int32, (∀ j, j < 24 → b j = -1) → (∀ j, j < 4 → a j = -1) → post (1, upd (fun _ => 0) 0 1, b, fun _ => 0, fun _ => 0, fun _ => 0, fun _ => 0, a, fun _ => 0, fun _ => 0, fun _ => 0, fun _ => 0, fun _ => 0, fun _ => 0, fun _ => 0, fun _ => 0)) :
    wpX_init post mc ms x := by
  unfold wpX_init
  exact ⟨by omega, by omega, by omega, by omega, by omega, by omega, by omega, by omega, by omega, by omega, by omega, by omega, by omega, by omega, by omega, by omega, by omega, by omega, by omega, by omega, by omega, by omega, by omega, by omega, by omega, by omega, by omega, by omega, by omega, by omega, dt_i126 H⟩
end
end
section
section
variable {f : Int32} {a1 a2 a3 a4 a5 a6 a7 a8 a9 a10 a11 a12 a13 a14 a15 : Nat → Int32}
theorem dt_al0 {post : Int32 → Prop} (h : a1 0 = 1) (H : post 1) : wpX_isAlive post (f, a1, a2, a3, a4, a5, a6, a7, a8, a9, a10, a11, a12, a13, a14, a15) 0 :=
  br_f (by decide) (br_f (by decide) ⟨pk_in 0 4 (by decide), br_f (by rw [sb_cl0, h]; decide) H⟩)
theorem dt_alN {post : Int32 → Prop} {p : Int32} (h : ∀ j, j < 4 → j ≠ 0 → a1 j = 0) (hp : ¬ p = 0) (H : post 0) : wpX_isAlive post (f, a1, a2, a3, a4, a5, a6, a7, a8, a9, a10, a11, a12, a13, a14, a15) p := by
  refine br_c (fun _ => H) (fun h0 => br_c (fun _ => H) (fun h3 => ?_))
  obtain ⟨j, hj, rfl⟩ := dt_03 h0 h3
  refine ⟨pk_in j 4 hj, br_t ?_ H⟩
  rw [nI_clamp (by omega)]
  exact h j hj (fun e => hp (by rw [e, nI_0]))
theorem dt_nmT {post : Int32 → Prop} {j : Nat} (hj : j < 4) (H : post 1) : wpX_isName post () (nI j) :=
  br_f (nI_pos (by omega)) (br_f (nI_nlt (a := 3) (b := j) (by omega) (by decide)) H)
theorem dt_nmF {post : Int32 → Prop} {p : Int32} (h : p < 0 ∨ 3 < p) (H : post 0) : wpX_isName post () p :=
  br_c (fun _ => H) (fun h0 => br_c (fun _ => H) (fun h3 => absurd h (fun z => z.elim h0 h3)))
theorem dt_ooJ {post : Int32 → Prop} {j : Nat} (hj : j < 6) (h1 : a1 0 = 1) (H : post (a2 j)) : wpX_openingOf post (f, a1, a2, a3, a4, a5, a6, a7, a8, a9, a10, a11, a12, a13, a14, a15) 0 (nI j) := by
  unfold wpX_openingOf
  refine dt_al0 h1 ?_
  refine br_f (by decide) (br_f (nI_pos (by omega)) (br_t (nI_le (b := 5) (by omega) (by decide)) ?_))
  rw [dt_60, nI_clamp (by omega)]
  exact ⟨pk_in j 24 (by omega), H⟩
theorem dt_ooN {post : Int32 → Prop} {p d : Int32} (h1 : a1 0 = 1) (h1' : ∀ j, j < 4 → j ≠ 0 → a1 j = 0) (h : ∀ j, j < 6 → p = 0 → d = nI j → a2 j = -1) (H : post (-1)) : wpX_openingOf post (f, a1, a2, a3, a4, a5, a6, a7, a8, a9, a10, a11, a12, a13, a14, a15) p d := by
  by_cases hp : p = 0
  · subst hp
    by_cases h0 : d < 0
    · unfold wpX_openingOf
      refine dt_al0 h1 ?_
      exact br_f (by decide) (br_t h0 H)
    · by_cases h5 : d ≤ 5
      · obtain ⟨j, hj, rfl⟩ := dt_05 h0 h5
        exact dt_ooJ hj h1 (by rw [h j hj rfl rfl]; exact H)
      · unfold wpX_openingOf
        refine dt_al0 h1 ?_
        exact br_f (by decide) (br_f h0 (br_f h5 H))
  · unfold wpX_openingOf
    refine dt_alN h1' hp ?_
    exact br_t rfl H
theorem dt_readN {post : Int32 → St2 → Prop} {p d : Int32} (h1 : a1 0 = 1) (h1' : ∀ j, j < 4 → j ≠ 0 → a1 j = 0) (h : ∀ j, j < 6 → p = 0 → d = nI j → a2 j = -1) (H : post (-1) (f, a1, a2, a3, a4, a5, a6, a7, a8, a9, a10, a11, a12, a13, a14, a15)) : wpX_read post (f, a1, a2, a3, a4, a5, a6, a7, a8, a9, a10, a11, a12, a13, a14, a15) p d := by
  unfold wpX_read
  refine dt_ooN h1 h1' h ?_
  exact br_t (by decide) H
theorem dt_readI {post : Int32 → St2 → Prop} (h1 : a1 0 = 1) (h2 : a2 0 = 0) (h4 : a4 0 = 1) (h5 : a5 0 = 0) (h6 : a6 0 = 0) (h9 : a9 0 = 0) (H : post (-5) (f, a1, a2, a3, a4, a5, a6, a7, a8, a9, a10, a11, a12, a13, a14, a15)) : wpX_read post (f, a1, a2, a3, a4, a5, a6, a7, a8, a9, a10, a11, a12, a13, a14, a15) 0 0 := by
  unfold wpX_read
  refine dt_ooJ (j := 0) (by decide) h1 ?_
  rw [h2]
  refine br_f (by decide) ⟨pk_in 0 24 (by decide), br_f ?_ ⟨pk_in 0 24 (by decide), br_t ?_ ?_⟩⟩
  · rw [sb_cl0, h4]
    decide
  · rw [sb_cl0, h4]
  · refine ⟨pk_in 0 24 (by decide), nm_r (e' := 0) (by rw [sb_cl0, h5]) ⟨pk_in 0 24 (by decide), nm_r (e' := 0) (by rw [sb_cl0, h6]) ⟨pk_in 0 28 (by decide), br_f ?_ H⟩⟩⟩
    rw [sb_cl0, h9]
    decide
theorem dt_seekN {post : Int32 → St2 → Prop} {p d x : Int32} (h1 : a1 0 = 1) (h1' : ∀ j, j < 4 → j ≠ 0 → a1 j = 0) (h : ∀ j, j < 6 → p = 0 → d = nI j → a2 j = -1) (H : post (-1) (f, a1, a2, a3, a4, a5, a6, a7, a8, a9, a10, a11, a12, a13, a14, a15)) : wpX_seek post (f, a1, a2, a3, a4, a5, a6, a7, a8, a9, a10, a11, a12, a13, a14, a15) p d x := by
  unfold wpX_seek
  refine dt_ooN h1 h1' h ?_
  exact br_t (by decide) H
theorem dt_seekI {post : Int32 → St2 → Prop} {x : Int32} (h1 : a1 0 = 1) (h2 : a2 0 = 0) (h4 : a4 0 = 1) (h5 : a5 0 = 0) (h9 : a9 0 = 0) (H0 : x = 0 → post 0 (f, a1, a2, a3, a4, a5, upd a6 0 x, a7, a8, a9, a10, a11, a12, a13, a14, a15)) (H1 : ¬ x = 0 → post (-1) (f, a1, a2, a3, a4, a5, a6, a7, a8, a9, a10, a11, a12, a13, a14, a15)) : wpX_seek post (f, a1, a2, a3, a4, a5, a6, a7, a8, a9, a10, a11, a12, a13, a14, a15) 0 0 x := by
  unfold wpX_seek
  refine dt_ooJ (j := 0) (by decide) h1 ?_
  rw [h2]
  refine br_f (by decide) ⟨pk_in 0 24 (by decide), br_t ?_ (br_c (fun g => H1 (fun e => ?_)) (fun g => ⟨pk_in 0 24 (by decide), ?_⟩))⟩
  · rw [sb_cl0, h4]
  · rw [e] at g
    exact absurd g (by decide)
  · rw [sb_cl0, h5, sb_cl0, h9]
    exact ⟨pk_in 0 28 (by decide), br_c (fun g2 => ⟨pk_in 0 24 (by decide), nm_e (H0 (dt_eq0 g g2))⟩) (fun g2 => H1 (fun e => g2 (by rw [e]; decide)))⟩
theorem dt_exit {post : Int32 → St2 → Prop} {p : Int32} (h1 : a1 0 = 1) (h1' : ∀ j, j < 4 → j ≠ 0 → a1 j = 0) (H : post (-1) (1, a1, a2, a3, a4, a5, a6, a7, a8, a9, a10, a11, a12, a13, a14, a15)) : wpX_exit post (1, a1, a2, a3, a4, a5, a6, a7, a8, a9, a10, a11, a12, a13, a14, a15) p := by
  unfold wpX_exit
  by_cases hp : p = 0
  · subst hp
    refine dt_al0 h1 ?_
    exact br_f (by decide) (br_t rfl H)
  · refine dt_alN h1' hp ?_
    exact br_t rfl H
theorem dt_unF {post : Int32 → St2 → Prop} {p : Int32} (h : p < 0 ∨ 3 < p) (H : post (-1) (f, a1, a2, a3, a4, a5, a6, a7, a8, a9, a10, a11, a12, a13, a14, a15)) : wpX_unlink post (f, a1, a2, a3, a4, a5, a6, a7, a8, a9, a10, a11, a12, a13, a14, a15) p := by
  unfold wpX_unlink
  refine dt_nmF h ?_
  exact br_t rfl H
theorem dt_unN {post : Int32 → St2 → Prop} {j : Nat} (hj : j < 4) (h7 : a7 j = -1) (H : post (-1) (f, a1, a2, a3, a4, a5, a6, a7, a8, a9, a10, a11, a12, a13, a14, a15)) : wpX_unlink post (f, a1, a2, a3, a4, a5, a6, a7, a8, a9, a10, a11, a12, a13, a14, a15) (nI j) := by
  unfold wpX_unlink
  refine dt_nmT hj ?_
  refine br_f (by decide) ⟨pk_in j 4 hj, br_f ?_ H⟩
  rw [nI_clamp (by omega), h7]
  decide
theorem dt_unJ {post : Int32 → St2 → Prop} {j : Nat} (hj : j < 4) (h7 : a7 j = 0) (H : post 0 (f, a1, a2, a3, a4, a5, a6, upd a7 j (-1), upd a8 0 (a8 0 - 1), a9, a10, a11, a12, a13, a14, a15)) : wpX_unlink post (f, a1, a2, a3, a4, a5, a6, a7, a8, a9, a10, a11, a12, a13, a14, a15) (nI j) := by
  unfold wpX_unlink
  refine dt_nmT hj ?_
  refine br_f (by decide) ⟨pk_in j 4 hj, br_t ?_ ⟨pk_in j 4 hj, ?_⟩⟩
  · rw [nI_clamp (by omega), h7]
    decide
  · rw [nI_clamp (by omega), h7, sb_cl0]
    exact ⟨pk_in 0 28 (by decide), pk_in 0 28 (by decide), nm_e ⟨pk_in j 4 hj, nm_e H⟩⟩
/-- counts, its third loop: no pipe -/
theorem dt_c77 {post : Int32 → Prop} {x1 x2 : Int32} (h11 : ∀ j, j < 24 → a11 j = 0) (h12 : ∀ j, j < 24 → a12 j = 0) (H : post (100 * x1 + 10 * x2 + 0)) : ∃ n, wX_counts_77 post x1 x2 f a1 a2 a3 a4 a5 a6 a7 a8 a9 a10 a11 a12 a13 a14 a15 n 0 0 :=
  pk_loop (σ := Unit) (fun n i _ => wX_counts_77 post x1 x2 f a1 a2 a3 a4 a5 a6 a7 a8 a9 a10 a11 a12 a13 a14 a15 n 0 (nI i)) (fun _ _ => True) 24 0 () (by omega) trivial
    (fun n _ _ => pk_le 24 24 (fun _ => H) (fun z => absurd z (by omega)))
    (fun n i _ hi _ hw => pk_le 24 i (fun z => absurd z (by omega)) (fun _ => ⟨pk_in i 24 hi, br_t (by rw [nI_clamp (by omega)]; exact h11 i hi) ⟨pk_in i 24 hi, br_t (by rw [nI_clamp (by omega)]; exact h12 i hi) (nm_r (e' := 0) (by decide) (nm_r (nI_1 i) (hw () trivial)))⟩⟩))
/-- counts, its second loop: a file at place 0 or none -/
theorem dt_c43r {post : Int32 → Prop} {x1 x2 : Int32} (h8 : ∀ j, j < 28 → j ≠ 0 → a8 j ≤ 0) (h11 : ∀ j, j < 24 → a11 j = 0) (h12 : ∀ j, j < 24 → a12 j = 0) (H : post (100 * x1 + 10 * x2 + 0)) : ∃ n, wX_counts_43 post x1 0 f a1 a2 a3 a4 a5 a6 a7 a8 a9 a10 a11 a12 a13 a14 a15 n x2 (nI 1) :=
  pk_loop (σ := Unit) (fun n i _ => wX_counts_43 post x1 0 f a1 a2 a3 a4 a5 a6 a7 a8 a9 a10 a11 a12 a13 a14 a15 n x2 (nI i)) (fun i _ => 1 ≤ i) 28 1 () (by omega) (by omega)
    (fun n _ _ => pk_le 28 28 (fun _ => dt_c77 h11 h12 H) (fun z => absurd z (by omega)))
    (fun n i _ hi h hw => pk_le 28 i (fun z => absurd z (by omega)) (fun _ => ⟨pk_in i 28 hi, br_t (by rw [nI_clamp (by omega)]; exact h8 i hi (by omega)) (nm_r (Int32.add_zero x2) (nm_r (nI_1 i) (hw () (by omega))))⟩))
theorem dt_c43 {post : Int32 → Prop} {x1 d : Int32} (hd : (a8 0 ≤ 0 ∧ d = 0) ∨ (¬ a8 0 ≤ 0 ∧ d = 1)) (h8 : ∀ j, j < 28 → j ≠ 0 → a8 j ≤ 0) (h11 : ∀ j, j < 24 → a11 j = 0) (h12 : ∀ j, j < 24 → a12 j = 0) (H : post (100 * x1 + 10 * d + 0)) : ∃ n, wX_counts_43 post x1 0 f a1 a2 a3 a4 a5 a6 a7 a8 a9 a10 a11 a12 a13 a14 a15 n 0 0 := by
  obtain ⟨n, hn⟩ := dt_c43r (f := f) (a1 := a1) (a2 := a2) (a3 := a3) (a4 := a4) (a5 := a5) (a6 := a6) (a7 := a7) (a9 := a9) (a10 := a10) (a13 := a13) (a14 := a14) (a15 := a15) h8 h11 h12 H
  refine ⟨n + 1, br_f (by decide) ⟨pk_in 0 28 (by decide), ?_⟩⟩
  rw [sb_cl0]
  rcases hd with ⟨e, rfl⟩ | ⟨e, rfl⟩
  · exact br_t e (nm_r (e' := 0) (by decide) (nm_r (e' := nI 1) (by decide) hn))
  · exact br_f e (nm_r (e' := 1) (by decide) (nm_r (e' := nI 1) (by decide) hn))
/-- counts, its first loop: an opening at place 0 or none -/
theorem dt_c9r {post : Int32 → Prop} {x1 d : Int32} (h3 : ∀ j, j < 24 → j ≠ 0 → a3 j ≤ 0) (hd : (a8 0 ≤ 0 ∧ d = 0) ∨ (¬ a8 0 ≤ 0 ∧ d = 1)) (h8 : ∀ j, j < 28 → j ≠ 0 → a8 j ≤ 0) (h11 : ∀ j, j < 24 → a11 j = 0) (h12 : ∀ j, j < 24 → a12 j = 0) (H : post (100 * x1 + 10 * d + 0)) : ∃ n, wX_counts_9 post 0 0 f a1 a2 a3 a4 a5 a6 a7 a8 a9 a10 a11 a12 a13 a14 a15 n x1 (nI 1) :=
  pk_loop (σ := Unit) (fun n i _ => wX_counts_9 post 0 0 f a1 a2 a3 a4 a5 a6 a7 a8 a9 a10 a11 a12 a13 a14 a15 n x1 (nI i)) (fun i _ => 1 ≤ i) 24 1 () (by omega) (by omega)
    (fun n _ _ => pk_le 24 24 (fun _ => dt_c43 hd h8 h11 h12 H) (fun z => absurd z (by omega)))
    (fun n i _ hi h hw => pk_le 24 i (fun z => absurd z (by omega)) (fun _ => ⟨pk_in i 24 hi, br_t (by rw [nI_clamp (by omega)]; exact h3 i hi (by omega)) (nm_r (Int32.add_zero x1) (nm_r (nI_1 i) (hw () (by omega))))⟩))
theorem dt_counts {post : Int32 → Prop} {c d : Int32} (hc : (a3 0 ≤ 0 ∧ c = 0) ∨ (¬ a3 0 ≤ 0 ∧ c = 1)) (h3 : ∀ j, j < 24 → j ≠ 0 → a3 j ≤ 0) (hd : (a8 0 ≤ 0 ∧ d = 0) ∨ (¬ a8 0 ≤ 0 ∧ d = 1)) (h8 : ∀ j, j < 28 → j ≠ 0 → a8 j ≤ 0) (h11 : ∀ j, j < 24 → a11 j = 0) (h12 : ∀ j, j < 24 → a12 j = 0) (H : post (100 * c + 10 * d + 0)) : wpX_counts post (f, a1, a2, a3, a4, a5, a6, a7, a8, a9, a10, a11, a12, a13, a14, a15) := by
  obtain ⟨n, hn⟩ := dt_c9r (f := f) (a1 := a1) (a2 := a2) (a4 := a4) (a5 := a5) (a6 := a6) (a7 := a7) (a9 := a9) (a10 := a10) (a13 := a13) (a14 := a14) (a15 := a15) h3 hd h8 h11 h12 H
  refine ⟨n + 1, br_f (by decide) ⟨pk_in 0 24 (by decide), ?_⟩⟩
  rw [sb_cl0]
  rcases hc with ⟨e, rfl⟩ | ⟨e, rfl⟩
  · exact br_t e (nm_r (e' := 0) (by decide) (nm_r (e' := nI 1) (by decide) hn))
  · exact br_f e (nm_r (e' := 1) (by decide) (nm_r (e' := nI 1) (by decide) hn))
theorem dt_fd {post : Int32 → Prop} (h : a2 0 = -1) (H : post 0) : wpX_freeDescriptor post (f, a1, a2, a3, a4, a5, a6, a7, a8, a9, a10, a11, a12, a13, a14, a15) 0 0 := by
  refine ⟨1, br_f (by decide) ?_⟩
  rw [dt_60, sb_cl0, h]
  exact ⟨pk_in 0 24 (by decide), br_f (by decide) H⟩
theorem dt_ff5 {post : Int32 → Prop} (h : ∀ j, j < 28 → a8 j = 0) (H : post 0) : ∀ k, k ≤ 28 → ∀ x : Int32, (k = 0 → x = 0) → wX_freeFile_5 post f a1 a2 a3 a4 a5 a6 a7 a8 a9 a10 a11 a12 a13 a14 a15 (k + 1) x (nI k + (-1)) := by
  intro k
  induction k with
  | zero =>
    intro _ x hx
    rw [hx rfl]
    exact br_t (by decide) H
  | succ k ih =>
    intro hk x hx
    rw [pk_m1]
    refine br_f (nI_pos (by omega)) ⟨pk_in k 28 (by omega), br_t ?_ (nm_e (ih (by omega) (nI k) (fun e => ?_)))⟩
    · rw [nI_clamp (by omega)]
      exact h k (by omega)
    · rw [e, nI_0]
theorem dt_ff {post : Int32 → Prop} (h : ∀ j, j < 28 → a8 j = 0) (H : post 0) : wpX_freeFile post (f, a1, a2, a3, a4, a5, a6, a7, a8, a9, a10, a11, a12, a13, a14, a15) := by
  have t := dt_ff5 (f := f) (a1 := a1) (a2 := a2) (a3 := a3) (a4 := a4) (a5 := a5) (a6 := a6) (a7 := a7) (a9 := a9) (a10 := a10) (a11 := a11) (a12 := a12) (a13 := a13) (a14 := a14) (a15 := a15) h H 28 (by omega) 0 (fun _ => rfl)
  rw [show nI 28 + (-1) = 27 by decide] at t
  exact ⟨28 + 1, t⟩
theorem dt_no6 {post : Int32 → St2 → Prop} {x1 x2 : Int32} (h : ∀ j, j < 24 → a3 j = 0) (H : post 0 (f, a1, a2, upd a3 0 1, upd a4 0 x1, upd a5 0 x2, upd a6 0 0, a7, a8, a9, a10, a11, a12, a13, a14, a15)) : ∀ k, k ≤ 24 → ∀ x : Int32, (k = 0 → x = 0) → wX_newOpening_6 post x1 x2 f a1 a2 a3 a4 a5 a6 a7 a8 a9 a10 a11 a12 a13 a14 a15 (k + 1) x (nI k + (-1)) := by
  intro k
  induction k with
  | zero =>
    intro _ x hx
    rw [hx rfl]
    exact br_t (by decide) ⟨pk_in 0 24 (by decide), nm_r (by rw [sb_cl0]) ⟨pk_in 0 24 (by decide), nm_r (by rw [sb_cl0]) ⟨pk_in 0 24 (by decide), nm_r (by rw [sb_cl0]) ⟨pk_in 0 24 (by decide), nm_r (by rw [sb_cl0]) H⟩⟩⟩⟩
  | succ k ih =>
    intro hk x hx
    rw [pk_m1]
    refine br_f (nI_pos (by omega)) ⟨pk_in k 24 (by omega), br_t ?_ (nm_e (ih (by omega) (nI k) (fun e => ?_)))⟩
    · rw [nI_clamp (by omega)]
      exact h k (by omega)
    · rw [e, nI_0]
theorem dt_no {post : Int32 → St2 → Prop} {x1 x2 : Int32} (h : ∀ j, j < 24 → a3 j = 0) (H : post 0 (f, a1, a2, upd a3 0 1, upd a4 0 x1, upd a5 0 x2, upd a6 0 0, a7, a8, a9, a10, a11, a12, a13, a14, a15)) : wpX_newOpening post (f, a1, a2, a3, a4, a5, a6, a7, a8, a9, a10, a11, a12, a13, a14, a15) x1 x2 := by
  have t := dt_no6 h H 24 (by omega) 0 (fun _ => rfl)
  rw [show nI 24 + (-1) = 23 by decide] at t
  exact ⟨24 + 1, t⟩
theorem dt_o70 {post : Int32 → St2 → Prop} {m : Nat} (hm : m < 4) (h3 : ∀ j, j < 24 → a3 j = 0) (h7 : a7 m = 0) (h8 : a8 0 = 1) (H : post 0 (f, a1, upd a2 0 0, upd a3 0 1, upd a4 0 1, upd a5 0 0, upd a6 0 0, a7, upd a8 0 (1 + 1), a9, a10, a11, a12, a13, a14, a15)) : wX_open_70 post 0 (nI m) 0 f a1 a2 a3 a4 a5 a6 a7 a8 a9 a10 a11 a12 a13 a14 a15 := by
  unfold wX_open_70
  rw [nI_clamp (by omega), h7, sb_cl0, h8]
  refine ⟨pk_in m 4 hm, pk_in 0 28 (by decide), pk_in 0 28 (by decide), nm_e ⟨pk_in m 4 hm, dt_no h3 ?_⟩⟩
  dsimp only
  rw [dt_60, sb_cl0]
  exact ⟨pk_in 0 24 (by decide), nm_e H⟩
theorem dt_openN {post : Int32 → St2 → Prop} {p q : Int32} (h1 : a1 0 = 1) (h1' : ∀ j, j < 4 → j ≠ 0 → a1 j = 0) (h : ¬ p = 0 ∨ q < 0 ∨ 3 < q) (H : post (-1) (f, a1, a2, a3, a4, a5, a6, a7, a8, a9, a10, a11, a12, a13, a14, a15)) : wpX_open post (f, a1, a2, a3, a4, a5, a6, a7, a8, a9, a10, a11, a12, a13, a14, a15) p q := by
  unfold wpX_open
  by_cases hp : p = 0
  · subst hp
    refine dt_al0 h1 ?_
    refine br_f (by decide) ?_
    refine dt_nmF (h.resolve_left (fun z => z rfl)) ?_
    exact br_t rfl H
  · refine dt_alN h1' hp ?_
    exact br_t rfl H
theorem dt_openJ {post : Int32 → St2 → Prop} {m : Nat} (hm : m < 4) (h1 : a1 0 = 1) (h2 : a2 0 = -1) (h3 : ∀ j, j < 24 → a3 j = 0) (h7 : a7 m = -1) (h8 : ∀ j, j < 28 → a8 j = 0)
    (H : post 0 (f, a1, upd a2 0 0, upd a3 0 1, upd a4 0 1, upd a5 0 0, upd a6 0 0, upd a7 m 0, upd (upd a8 0 1) 0 (1 + 1), upd a9 0 0, a10, a11, a12, a13, a14, a15)) : wpX_open post (f, a1, a2, a3, a4, a5, a6, a7, a8, a9, a10, a11, a12, a13, a14, a15) 0 (nI m) := by
  unfold wpX_open
  refine dt_al0 h1 ?_
  refine br_f (by decide) ?_
  refine dt_nmT hm ?_
  refine br_f (by decide) ?_
  refine dt_fd h2 ?_
  refine br_t (by decide) ⟨pk_in m 4 hm, br_f ?_ ?_⟩
  · rw [nI_clamp (by omega), h7]
    decide
  · refine dt_ff h8 ?_
    refine ⟨pk_in m 4 hm, nm_r (e' := upd a7 m 0) ?_ ⟨pk_in 0 28 (by decide), nm_r (e' := upd a8 0 1) ?_ ⟨pk_in 0 28 (by decide), nm_r (e' := upd a9 0 0) ?_ (dt_o70 hm h3 pk_us pk_us H)⟩⟩⟩
    · rw [nI_clamp (by omega)]
    · rw [sb_cl0]
    · rw [sb_cl0]
end
end
section
section
variable {a1 a2 a3 a4 a5 a6 a7 a8 a9 a10 a11 a12 a13 a14 a15 : Nat → Int32} {post : Int32 → St0 → Prop} {mc ms kc ks : Nat}
/-- the law's last two checks, no file of that name: exit and unlink answer BAD -/
theorem dt_l133F {x0 x1 z : Int32} (h1 : a1 0 = 1) (h1' : ∀ j, j < 4 → j ≠ 0 → a1 j = 0) (h7 : ∀ j, j < 4 → a7 j = -1) (H : post 1 ()) : wL_lawOf_133 post mc ms x0 x1 0 z z kc ks 1 a1 a2 a3 a4 a5 a6 a7 a8 a9 a10 a11 a12 a13 a14 a15 := by
  refine br_t rfl (dt_exit h1 h1' (br_t rfl ?_))
  by_cases h0 : x1 < 0
  · exact dt_unF (Or.inl h0) (br_t rfl (br_t rfl H))
  · by_cases h3 : 3 < x1
    · exact dt_unF (Or.inr h3) (br_t rfl (br_t rfl H))
    · obtain ⟨j, hj, rfl⟩ := dt_03 h0 h3
      exact dt_unN hj (h7 j hj) (br_t rfl (br_t rfl H))
/-- the same where the file is there -/
theorem dt_l133T {x0 z : Int32} {m : Nat} (hm : m < 4) (h1 : a1 0 = 1) (h1' : ∀ j, j < 4 → j ≠ 0 → a1 j = 0) (h7 : a7 m = 0) (H : post 1 ()) : wL_lawOf_133 post mc ms x0 (nI m) 1 z z kc ks 1 a1 a2 a3 a4 a5 a6 a7 a8 a9 a10 a11 a12 a13 a14 a15 :=
  br_t rfl (dt_exit h1 h1' (br_t rfl (dt_unJ hm h7 (br_f (by decide) (br_t rfl H)))))
/-- the law where nothing was opened -/
theorem dt_lawF {x0 x1 x2 x3 : Int32} (h : ¬ x0 = 0 ∨ x1 < 0 ∨ 3 < x1) (h1 : a1 0 = 1) (h1' : ∀ j, j < 4 → j ≠ 0 → a1 j = 0) (h2 : ∀ j, j < 24 → a2 j = -1) (h3 : ∀ j, j < 24 → a3 j = 0) (h7 : ∀ j, j < 4 → a7 j = -1) (h8 : ∀ j, j < 28 → a8 j = 0) (h11 : ∀ j, j < 24 → a11 j = 0) (h12 : ∀ j, j < 24 → a12 j = 0) (H : post 1 ()) :
    wL_lawOf_26 post mc ms x0 x1 x2 x3 kc ks 1 a1 a2 a3 a4 a5 a6 a7 a8 a9 a10 a11 a12 a13 a14 a15 := by
  have le0 : ∀ x : Int32, x = 0 → x ≤ 0 := fun x e => by rw [e]; decide
  have hn : ∀ j, j < 6 → x0 = 0 → x2 = nI j → a2 j = -1 := fun j hj _ _ => h2 j (by omega)
  unfold wL_lawOf_26 wL_lawOf_27
  refine dt_openN h1 h1' h (br_t rfl ?_)
  unfold wL_lawOf_46
  refine br_t rfl (dt_counts (c := 0) (d := 0) (Or.inl ⟨le0 _ (h3 0 (by decide)), rfl⟩) (fun j hj _ => le0 _ (h3 j hj)) (Or.inl ⟨le0 _ (h8 0 (by decide)), rfl⟩) (fun j hj _ => le0 _ (h8 j hj)) h11 h12 (br_t rfl ?_))
  unfold wL_lawOf_67
  refine br_t (by decide) (br_t rfl ?_)
  unfold wL_lawOf_85 wL_lawOf_86
  refine dt_readN h1 h1' hn (br_t rfl ?_)
  unfold wL_lawOf_106
  refine br_t rfl (dt_seekN h1 h1' hn (br_t rfl ?_))
  unfold wL_lawOf_132
  exact dt_l133F h1 h1' h7 H
/-- the law behind a file that was opened -/
theorem dt_lawT2 {x2 x3 : Int32} {m : Nat} (hm : m < 4) (h1 : a1 0 = 1) (h1' : ∀ j, j < 4 → j ≠ 0 → a1 j = 0) (h2 : a2 0 = 0) (h2' : ∀ j, j < 6 → j ≠ 0 → a2 j = -1) (h3 : a3 0 = 1) (h3' : ∀ j, j < 24 → j ≠ 0 → a3 j = 0) (h4 : a4 0 = 1) (h5 : a5 0 = 0) (h6 : a6 0 = 0) (h7 : a7 m = 0) (h8 : a8 0 = 1 + 1) (h8' : ∀ j, j < 28 → j ≠ 0 → a8 j = 0) (h9 : a9 0 = 0) (h11 : ∀ j, j < 24 → a11 j = 0) (h12 : ∀ j, j < 24 → a12 j = 0) (H : post 1 ()) :
    wL_lawOf_46 post mc ms 0 (nI m) x2 x3 1 0 0 kc ks 1 a1 a2 a3 a4 a5 a6 a7 a8 a9 a10 a11 a12 a13 a14 a15 := by
  have le0 : ∀ x : Int32, x = 0 → x ≤ 0 := fun x e => by rw [e]; decide
  unfold wL_lawOf_46
  refine br_t rfl (dt_counts (c := 1) (d := 1) (Or.inr ⟨by rw [h3]; decide, rfl⟩) (fun j hj n => le0 _ (h3' j hj n)) (Or.inr ⟨by rw [h8]; decide, rfl⟩) (fun j hj n => le0 _ (h8' j hj n)) h11 h12 (br_f (by decide) ?_))
  unfold wL_lawOf_67
  refine br_t (by decide) (br_f (by decide) (br_c (fun e => ?_) (fun e => ?_)))
  · subst e
    unfold wL_lawOf_86
    refine dt_readI h1 h2 h4 h5 h6 h9 (br_f (by decide) ?_)
    unfold wL_lawOf_106
    refine br_t rfl (dt_seekI h1 h2 h4 h5 h9 (fun e => br_f (by decide) (br_t e ?_)) (fun e => br_f (by decide) (br_f e ?_)))
    · exact dt_l133T hm h1 h1' h7 H
    · unfold wL_lawOf_132
      exact dt_l133T hm h1 h1' h7 H
  · have hn : ∀ j, j < 6 → (0 : Int32) = 0 → x2 = nI j → a2 j = -1 := fun j hj _ ej => h2' j hj (fun z => e (by rw [ej, z, nI_0]))
    unfold wL_lawOf_85 wL_lawOf_86
    refine dt_readN h1 h1' hn (br_t rfl ?_)
    unfold wL_lawOf_106
    refine br_t rfl (dt_seekN h1 h1' hn (br_t rfl ?_))
    unfold wL_lawOf_132
    exact dt_l133T hm h1 h1' h7 H
theorem dt_lawT {x2 x3 : Int32} {m : Nat} (hm : m < 4) (h1 : a1 0 = 1) (h1' : ∀ j, j < 4 → j ≠ 0 → a1 j = 0) (h2 : ∀ j, j < 24 → a2 j = -1) (h3 : ∀ j, j < 24 → a3 j = 0) (h7 : ∀ j, j < 4 → a7 j = -1) (h8 : ∀ j, j < 28 → a8 j = 0) (h11 : ∀ j, j < 24 → a11 j = 0) (h12 : ∀ j, j < 24 → a12 j = 0) (H : post 1 ()) :
    wL_lawOf_27 post mc ms 0 (nI m) x2 x3 1 kc ks 1 a1 a2 a3 a4 a5 a6 a7 a8 a9 a10 a11 a12 a13 a14 a15 := by
  unfold wL_lawOf_27
  refine dt_openJ hm h1 (h2 0 (by decide)) h3 (h7 m hm) h8 (br_f (by decide) ?_)
  exact dt_lawT2 hm h1 h1' pk_us (fun j hj n => by rw [pk_un n]; exact h2 j (by omega)) pk_us (fun j hj n => by rw [pk_un n]; exact h3 j hj) pk_us pk_us pk_us pk_us pk_us (fun j hj n => by rw [pk_un n, pk_un n]; exact h8 j hj) pk_us h11 h12 H
end
theorem dt_lawOf {post : Int32 → St0 → Prop} {p0 p1 p2 p3 : Int32} (H : post 1 ()) : wpL_lawOf post 16 664 () p0 p1 p2 p3 := by
  refine ⟨by decide, by decide, 15, 648, by decide, by decide, ?_⟩
  refine dt_init (by decide) (by decide) (fun b a hb ha => ?_)
  have h1 : upd (fun _ => (0 : Int32)) 0 1 0 = 1 := pk_us
  have h1' : ∀ j, j < 4 → j ≠ 0 → upd (fun _ => (0 : Int32)) 0 1 j = 0 := fun j _ n => pk_un n
  have hz : ∀ n : Nat, ∀ j, j < n → (fun _ : Nat => (0 : Int32)) j = 0 := fun _ _ _ => rfl
  refine br_c (fun e => br_c (fun g => ?_) (fun g => br_c (fun g3 => ?_) (fun g3 => ?_))) (fun e => ?_)
  · exact dt_lawF (Or.inr (Or.inl g)) h1 h1' hb (hz 24) ha (hz 28) (hz 24) (hz 24) H
  · exact dt_lawF (Or.inr (Or.inr g3)) h1 h1' hb (hz 24) ha (hz 28) (hz 24) (hz 24) H
  · obtain ⟨m, hm, rfl⟩ := dt_03 g g3
    subst e
    exact dt_lawT hm h1 h1' hb (hz 24) ha (hz 28) (hz 24) (hz 24) H
  · exact dt_lawF (Or.inl e) h1 h1' hb (hz 24) ha (hz 28) (hz 24) (hz 24) H
theorem dt_cell {post : Int32 → Prop} {L : Nat} {xs : Nat → Int32} (hL : L ≤ 4) (k : Nat) (hk : k < 4) (H : ∀ r, post r) : wpL_cellAt post L xs () (nI k) :=
  pk_le L k (fun _ => H _) (fun z => ⟨pk_in k L z, H _⟩)
theorem i_vc (xs : Nat → Int32) (L : Nat) (hL : L ≤ 4) : wpL_law (fun r => r = 1) L xs :=
  dt_cell hL 0 (by decide) (fun _ => dt_cell hL 1 (by decide) (fun _ => dt_cell hL 2 (by decide) (fun _ => dt_cell hL 3 (by decide) (fun _ => ⟨16, 664, by decide, by decide, dt_lawOf rfl⟩))))
end
