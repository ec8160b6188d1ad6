section
/-- the picture: R rows, the listed weights c below 36, no query -/
def lo_K (R : Int32) (c : Nat → Int32) (u : St2) : Prop := match u with
  | (r0, q0, d0, s0, e0, a1, a2, a3, a4, a5, a6, a7, a8, a9, a10, a11, a12, a13, a14) => r0 = R ∧ (∀ j, j < 36 → a1 j = c j) ∧ (∀ j, j < 4 → a3 j = -1)
/-- ten to the power of the rows, of which there is one or none -/
def lo_P (R : Int32) (P : Int64) : Prop := (R = 0 ∧ P = 1) ∨ (R = 1 ∧ P = 10)
/-- a place in range -/
def lo_ok (p0 p1 p2 : Int32) : Prop := ¬ p0 < 0 ∧ ¬ 3 < p0 ∧ ¬ p1 < 0 ∧ ¬ 2 < p1 ∧ ¬ p2 < 0 ∧ ¬ 2 < p2
theorem lo_at {p0 p1 p2 : Int32} (h : lo_ok p0 p1 p2) : ∃ k : Nat, k < 36 ∧ ((9 * p0) + (3 * p1)) + p2 = nI k := by
  obtain ⟨h1, h2, h3, h4, h5, h6⟩ := h
  obtain ⟨i, hi, rfl⟩ := nI_of2 (M := 3) (n := 3) (by decide) h1 (Int32.not_lt.mp h2)
  obtain ⟨j, hj, rfl⟩ := nI_of2 (M := 2) (n := 2) (by decide) h3 (Int32.not_lt.mp h4)
  obtain ⟨l, hl, rfl⟩ := nI_of2 (M := 2) (n := 2) (by decide) h5 (Int32.not_lt.mp h6)
  refine ⟨9 * i + 3 * j + l, by omega, ?_⟩
  rw [show (9 : Int32) = nI 9 from rfl, show (3 : Int32) = nI 3 from rfl, pk_mul, pk_mul, nI_add, nI_add]
theorem lo_isRow1 {post : Int32 → Prop} {p0 p1 p2 : Int32} (h : lo_ok p0 p1 p2) (H : post 1) : wpX_isRow post () p0 p1 p2 :=
  br_f h.1 (br_f h.2.1 (br_f h.2.2.1 (br_f h.2.2.2.1 (br_f h.2.2.2.2.1 (br_f h.2.2.2.2.2 H)))))
theorem lo_isRow0 {post : Int32 → Prop} {p0 p1 p2 : Int32} (h : ¬ lo_ok p0 p1 p2) (H : post 0) : wpX_isRow post () p0 p1 p2 :=
  br_c (fun _ => H) (fun h1 => br_c (fun _ => H) (fun h2 => br_c (fun _ => H) (fun h3 => br_c (fun _ => H) (fun h4 => br_c (fun _ => H) (fun h5 => br_c (fun _ => H) (fun h6 => absurd ⟨h1, h2, h3, h4, h5, h6⟩ h))))))
theorem lo_pow {post : Int64 → Prop} {R : Int32} {P : Int64} (hR : lo_P R P) (H : post P) : wpX_power post () R := by
  rcases hR with ⟨rfl, rfl⟩ | ⟨rfl, rfl⟩
  · exact ⟨0 + 1, pk_le 0 0 (fun _ => H) (fun z => absurd z (by omega))⟩
  · exact ⟨0 + 1 + 1, pk_le 1 0 (fun z => absurd z (by omega)) (fun _ => pk_le 10 0 (fun z => absurd z (by omega)) (fun _ => nm_r (show (1 : Int64) * 10 = 10 by decide) (nm_r (show (0 : Int32) + 1 = 1 by decide) (pk_le 1 1 (fun _ => H) (fun z => absurd z (by omega))))))⟩
theorem lo_take {post : St2 → Prop} {r0 q0 d0 : Int32} {s0 : Int64} {e0 : Int32} {a1 a2 a3 a4 a5 a6 a7 a8 a9 a10 a11 a12 : Nat → Int32} {a13 : Nat → Int64} {a14 : Nat → Int32} (H : ∀ b2, post (r0, q0, d0, s0, e0, a1, b2, a3, a4, a5, a6, a7, a8, a9, a10, a11, a12, a13, a14)) : wpX_takeListed post (r0, q0, d0, s0, e0, a1, a2, a3, a4, a5, a6, a7, a8, a9, a10, a11, a12, a13, a14) :=
  pk_loop (fun n i s => wX_takeListed_2 post r0 q0 d0 s0 e0 n (nI i) a1 s a3 a4 a5 a6 a7 a8 a9 a10 a11 a12 a13 a14) (fun _ _ => True) 36 0 a2 (by omega) trivial
    (fun n s _ => pk_le 36 36 (fun _ => H s) (fun z => absurd z (by omega)))
    (fun n i s hi _ hw => pk_le 36 i (fun z => absurd z (by omega)) (fun _ => ⟨pk_in i 36 hi, pk_in i 36 hi, nm_e (nm_r (nI_1 i) (hw _ trivial))⟩))
theorem lo_fill {s : Nat → Int32} {i k : Nat} {x : Int32} (hk : k = i) (h : ∀ j, j < i → s j = x) : ∀ j, j < i + 1 → upd s k x j = x := by
  intro j hj
  rw [hk]
  by_cases e : j = i
  · rw [e, pk_us]
  · rw [pk_un e]
    exact h j (by omega)
theorem lo_clear {post : St2 → Prop} {r0 q0 d0 : Int32} {s0 : Int64} {e0 : Int32} {a1 a2 a3 a4 a5 a6 a7 a8 a9 a10 a11 a12 : Nat → Int32} {a13 : Nat → Int64} {a14 : Nat → Int32} (H : ∀ b3 b4 : Nat → Int32, (∀ j, j < 4 → b3 j = -1) → post (r0, 0, d0, s0, e0, a1, a2, b3, b4, a5, a6, a7, a8, a9, a10, a11, a12, a13, a14)) : wpX_clearQuery post (r0, q0, d0, s0, e0, a1, a2, a3, a4, a5, a6, a7, a8, a9, a10, a11, a12, a13, a14) :=
  pk_loop (fun n i (s : (Nat → Int32) × (Nat → Int32)) => wX_clearQuery_2 post r0 q0 d0 s0 e0 n (nI i) a1 a2 s.1 s.2 a5 a6 a7 a8 a9 a10 a11 a12 a13 a14) (fun i s => ∀ j, j < i → s.1 j = -1) 4 0 (a3, a4) (by omega) (fun j hj => absurd hj (by omega))
    (fun n s h => pk_le 4 4 (fun _ => H s.1 s.2 h) (fun z => absurd z (by omega)))
    (fun n i s hi h hw => pk_le 4 i (fun z => absurd z (by omega)) (fun _ => ⟨pk_in i 4 hi, nm_e ⟨pk_in i 4 hi, nm_e (nm_r (nI_1 i) (hw (_, _) (lo_fill (nI_clamp (by omega)) h)))⟩⟩))
theorem lo_init {post : St2 → Prop} (H : ∀ u, lo_K 0 (fun _ => -1) u → post u) : wpX_init post 14 560 (0, 0, 0, 0, 0) := by
  refine ⟨by omega, by omega, by omega, by omega, by omega, by omega, by omega, by omega, by omega, by omega, by omega, by omega, by omega, by omega, by omega, by omega, by omega, by omega, by omega, by omega, by omega, by omega, by omega, by omega, by omega, by omega, by omega, by omega, ?_⟩
  exact pk_loop (fun n i s => wX_init_116 post 14 560 14 560 0 0 0 0 0 n (nI i) s (fun _ => 0) (fun _ => 0) (fun _ => 0) (fun _ => 0) (fun _ => 0) (fun _ => 0) (fun _ => 0) (fun _ => 0) (fun _ => 0) (fun _ => 0) (fun _ => 0) (fun _ => 0) (fun _ => 0)) (fun i s => ∀ j, j < i → s j = -1) 36 0 (fun _ => 0) (by omega) (fun j hj => absurd hj (by omega))
    (fun n s h => pk_le 36 36 (fun _ => lo_clear (fun b3 b4 h3 => H _ ⟨rfl, h, h3⟩)) (fun z => absurd z (by omega)))
    (fun n i s hi h hw => pk_le 36 i (fun z => absurd z (by omega)) (fun _ => ⟨pk_in i 36 hi, nm_e (nm_r (nI_1 i) (hw _ (lo_fill (nI_clamp (by omega)) h)))⟩))
theorem lo_eval44 {post : Int64 → St2 → Prop} {P : Int64} {r0 q0 d0 : Int32} {s0 : Int64} {e0 : Int32} {a1 a2 a3 a4 a5 a6 a7 a8 a9 a10 a11 a12 : Nat → Int32} {a13 : Nat → Int64} {a14 : Nat → Int32} (hR : lo_P r0 P) (h5 : a5 0 = 0) (h6 : a6 0 = 0) (H : ∀ b13 b14, post P (r0, q0, 0, 1, 0, a1, a2, a3, a4, a5, a6, a7, a8, a9, a10, a11, a12, b13, b14)) : ∃ n, wX_evaluateAll_44 post n 0 r0 q0 1 s0 e0 a1 a2 a3 a4 a5 a6 a7 a8 a9 a10 a11 a12 a13 a14 := by
  refine ⟨0 + 1 + 1, ?_⟩
  refine br_f (by decide) (br_f (by decide) (nm_r (show (1 : Int32) - 1 = 0 by decide) ⟨pk_in 0 48 (by omega), br_t (by rw [sb_cl0]; exact h5) ?_⟩))
  refine ⟨pk_in 0 48 (by omega), nm_r (show a6 (0 : Int32).toNatClampNeg = 0 by rw [sb_cl0]; exact h6) ⟨pk_in 0 48 (by omega), nm_e ⟨pk_in 0 48 (by omega), nm_e ⟨pk_in 0 48 (by omega), nm_e (br_t rfl ?_)⟩⟩⟩⟩
  refine nm_r (show (1 : Int32) - 1 = 0 by decide) ?_
  refine nm_r (show (0 : Int32) + 1 = 1 by decide) ?_
  refine br_f (by decide) (br_t (by decide) ?_)
  refine lo_pow (R := r0 - 0) (P := P) (by rw [Int32.sub_zero]; exact hR) ?_
  rw [Int64.one_mul]
  exact H _ _
theorem lo_eval {post : Int64 → St2 → Prop} {P : Int64} {r0 q0 d0 : Int32} {s0 : Int64} {e0 : Int32} {a1 a2 a3 a4 a5 a6 a7 a8 a9 a10 a11 a12 : Nat → Int32} {a13 : Nat → Int64} {a14 : Nat → Int32} (hR : lo_P r0 P) (h3 : ∀ j, j < 4 → a3 j = -1) (H : ∀ b5 b6 b7 b13 b14, post P (r0, q0, 0, 1, 0, a1, a2, a3, a4, b5, b6, b7, a8, a9, a10, a11, a12, b13, b14)) : wpX_evaluateAll post (r0, q0, d0, s0, e0, a1, a2, a3, a4, a5, a6, a7, a8, a9, a10, a11, a12, a13, a14) :=
  pk_loop (σ := Unit) (fun n i _ => wX_evaluateAll_4 post r0 q0 d0 s0 e0 a1 a2 a3 a4 a5 a6 a7 a8 a9 a10 a11 a12 a13 a14 n 0 (nI i)) (fun _ _ => True) 4 0 () (by omega) trivial
    (fun n _ _ => pk_le 4 4 (fun _ => ⟨pk_in 0 48 (by omega), nm_e ⟨pk_in 0 48 (by omega), nm_e ⟨pk_in 0 48 (by omega), nm_e (nm_r (show (0 : Int32) + 1 = 1 by decide) (lo_eval44 (d0 := d0) hR (by rw [sb_cl0]; exact pk_us) (by rw [sb_cl0]; exact pk_us) (fun b13 b14 => H _ _ _ b13 b14)))⟩⟩⟩) (fun z => absurd z (by omega)))
    (fun n i _ hi _ hw => pk_le 4 i (fun z => absurd z (by omega)) (fun _ => ⟨pk_in i 4 hi, br_t (by rw [nI_clamp (by omega), h3 i hi]; decide) (nm_r (nI_1 i) (hw () trivial))⟩))
theorem lo_evalK {post : Int64 → St2 → Prop} {R : Int32} {P : Int64} {c : Nat → Int32} (hR : lo_P R P) {u : St2} (hu : lo_K R c u) (H : ∀ u', lo_K R c u' → post P u') : wpX_evaluateAll post u := by
  obtain ⟨r0, q0, d0, s0, e0, a1, a2, a3, a4, a5, a6, a7, a8, a9, a10, a11, a12, a13, a14⟩ := u
  obtain ⟨rfl, h1, h3⟩ := hu
  exact lo_eval hR h3 (fun _ _ _ _ _ => H _ ⟨rfl, h1, h3⟩)
end
section
theorem lo_weight {post : Int64 → St2 → Prop} {R : Int32} {P : Int64} {c : Nat → Int32} (hR : lo_P R P) {u : St2} (hu : lo_K R c u) (H : ∀ u', lo_K R c u' → post P u') : wpX_weight post u := by
  obtain ⟨r0, q0, d0, s0, e0, a1, a2, a3, a4, a5, a6, a7, a8, a9, a10, a11, a12, a13, a14⟩ := u
  obtain ⟨rfl, h1, h3⟩ := hu
  exact lo_take (fun b2 => lo_evalK (c := c) hR ⟨rfl, h1, h3⟩ (fun ⟨r0, q0, d0, s0, e0, a1, a2, a3, a4, a5, a6, a7, a8, a9, a10, a11, a12, a13, a14⟩ hu' => H _ hu'))
theorem lo_listed0 {post : Int32 → Prop} {R : Int32} {c : Nat → Int32} {u : St2} {p0 p1 p2 : Int32} (hu : lo_K R c u) (hn : lo_ok p0 p1 p2 → ∀ j, j < 36 → c j < 0) (H : post 0) : wpX_isListed post u p0 p1 p2 := by
  obtain ⟨r0, q0, d0, s0, e0, a1, a2, a3, a4, a5, a6, a7, a8, a9, a10, a11, a12, a13, a14⟩ := u
  obtain ⟨rfl, h1, h3⟩ := hu
  by_cases hp : lo_ok p0 p1 p2
  · obtain ⟨k, hk, he⟩ := lo_at hp
    unfold wpX_isListed
    refine lo_isRow1 hp ?_
    refine br_f (by decide) ⟨pk_in k 36 hk he, br_t ?_ H⟩
    rw [he, nI_clamp (by omega), h1 k hk]
    exact hn hp k hk
  · unfold wpX_isListed
    refine lo_isRow0 hp ?_
    exact br_t rfl H
theorem lo_listed1 {post : Int32 → Prop} {R : Int32} {c : Nat → Int32} {u : St2} {p0 p1 p2 : Int32} {k : Nat} (hu : lo_K R c u) (hp : lo_ok p0 p1 p2) (hk : k < 36) (he : ((9 * p0) + (3 * p1)) + p2 = nI k) (hc : ¬ c k < 0) (H : post 1) : wpX_isListed post u p0 p1 p2 := by
  obtain ⟨r0, q0, d0, s0, e0, a1, a2, a3, a4, a5, a6, a7, a8, a9, a10, a11, a12, a13, a14⟩ := u
  obtain ⟨rfl, h1, h3⟩ := hu
  unfold wpX_isListed
  refine lo_isRow1 hp ?_
  refine br_f (by decide) ⟨pk_in k 36 hk he, br_f ?_ H⟩
  rw [he, nI_clamp (by omega), h1 k hk]
  exact hc
theorem lo_with0 {post : Int64 → St2 → Prop} {R : Int32} {c : Nat → Int32} {u : St2} {p0 p1 p2 : Int32} (hu : lo_K R c u) (hn : lo_ok p0 p1 p2 → ∀ j, j < 36 → c j < 0) (H : post 0 u) : wpX_weightWith post u p0 p1 p2 := by
  obtain ⟨r0, q0, d0, s0, e0, a1, a2, a3, a4, a5, a6, a7, a8, a9, a10, a11, a12, a13, a14⟩ := u
  unfold wpX_weightWith
  refine lo_listed0 hu hn ?_
  exact br_t rfl H
theorem lo_with1 {post : Int64 → St2 → Prop} {c : Nat → Int32} {u : St2} {p0 p1 p2 : Int32} {k : Nat} (hu : lo_K 1 c u) (hp : lo_ok p0 p1 p2) (hk : k < 36) (he : ((9 * p0) + (3 * p1)) + p2 = nI k) (hc : ¬ c k < 0) (H : ∀ u', lo_K 1 c u' → post (c k).toInt64 u') : wpX_weightWith post u p0 p1 p2 := by
  obtain ⟨r0, q0, d0, s0, e0, a1, a2, a3, a4, a5, a6, a7, a8, a9, a10, a11, a12, a13, a14⟩ := u
  unfold wpX_weightWith
  refine lo_listed1 hu hp hk he hc ?_
  refine br_f (by decide) (nm_r he ?_)
  refine lo_take (fun b2 => ?_)
  refine ⟨pk_in k 36 hk, nm_e ?_⟩
  refine lo_evalK (P := 10) (R := 1) (c := c) (Or.inr ⟨rfl, rfl⟩) ⟨hu.1, hu.2.1, hu.2.2⟩ (fun ⟨r0, q0, d0, s0, e0, a1, a2, a3, a4, a5, a6, a7, a8, a9, a10, a11, a12, a13, a14⟩ hu' => ?_)
  refine ⟨by decide, pk_in k 36 hk, ?_⟩
  rw [nI_clamp (by omega), hu'.2.1 k hk, show (10 : Int64) / 10 = 1 by decide, Int64.one_mul]
  exact H _ hu'
theorem lo_without0 {post : Int64 → St2 → Prop} {R : Int32} {P : Int64} {c : Nat → Int32} {u : St2} {p0 p1 p2 : Int32} (hR : lo_P R P) (hu : lo_K R c u) (hn : lo_ok p0 p1 p2 → ∀ j, j < 36 → c j < 0) (H : ∀ u', lo_K R c u' → post P u') : wpX_weightWithout post u p0 p1 p2 := by
  obtain ⟨r0, q0, d0, s0, e0, a1, a2, a3, a4, a5, a6, a7, a8, a9, a10, a11, a12, a13, a14⟩ := u
  unfold wpX_weightWithout
  refine lo_listed0 hu hn ?_
  refine br_t rfl ?_
  exact lo_weight hR hu (fun ⟨r0, q0, d0, s0, e0, a1, a2, a3, a4, a5, a6, a7, a8, a9, a10, a11, a12, a13, a14⟩ hu' => H _ hu')
theorem lo_without1 {post : Int64 → St2 → Prop} {c : Nat → Int32} {u : St2} {p0 p1 p2 : Int32} {k : Nat} (hu : lo_K 1 c u) (hp : lo_ok p0 p1 p2) (hk : k < 36) (he : ((9 * p0) + (3 * p1)) + p2 = nI k) (hc : ¬ c k < 0) (H : ∀ u', lo_K 1 c u' → post (10 - c k).toInt64 u') : wpX_weightWithout post u p0 p1 p2 := by
  obtain ⟨r0, q0, d0, s0, e0, a1, a2, a3, a4, a5, a6, a7, a8, a9, a10, a11, a12, a13, a14⟩ := u
  unfold wpX_weightWithout
  refine lo_listed1 hu hp hk he hc ?_
  refine br_f (by decide) (nm_r he ?_)
  refine lo_take (fun b2 => ?_)
  refine ⟨pk_in k 36 hk, nm_e ?_⟩
  refine lo_evalK (P := 10) (R := 1) (c := c) (Or.inr ⟨rfl, rfl⟩) ⟨hu.1, hu.2.1, hu.2.2⟩ (fun ⟨r0, q0, d0, s0, e0, a1, a2, a3, a4, a5, a6, a7, a8, a9, a10, a11, a12, a13, a14⟩ hu' => ?_)
  refine ⟨by decide, pk_in k 36 hk, ?_⟩
  rw [nI_clamp (by omega), hu'.2.1 k hk, show (10 : Int64) / 10 = 1 by decide, Int64.one_mul]
  exact H _ hu'
theorem lo_drop0 {post : Int32 → St2 → Prop} {R : Int32} {c : Nat → Int32} {u : St2} {p0 p1 p2 : Int32} (hu : lo_K R c u) (hn : lo_ok p0 p1 p2 → ∀ j, j < 36 → c j < 0) (H : post (-1) u) : wpX_drop post u p0 p1 p2 := by
  obtain ⟨r0, q0, d0, s0, e0, a1, a2, a3, a4, a5, a6, a7, a8, a9, a10, a11, a12, a13, a14⟩ := u
  unfold wpX_drop
  refine lo_listed0 hu hn ?_
  exact br_t rfl H
theorem lo_drop1 {post : Int32 → St2 → Prop} {c : Nat → Int32} {u : St2} {p0 p1 p2 : Int32} {k : Nat} (hu : lo_K 1 c u) (hp : lo_ok p0 p1 p2) (hk : k < 36) (he : ((9 * p0) + (3 * p1)) + p2 = nI k) (hc : ¬ c k < 0) (H : ∀ u', lo_K 0 (upd c k (-1)) u' → post 0 u') : wpX_drop post u p0 p1 p2 := by
  obtain ⟨r0, q0, d0, s0, e0, a1, a2, a3, a4, a5, a6, a7, a8, a9, a10, a11, a12, a13, a14⟩ := u
  unfold wpX_drop
  refine lo_listed1 hu hp hk he hc ?_
  refine br_f (by decide) ⟨pk_in k 36 hk he, nm_e (nm_r (show r0 - 1 = 0 by rw [hu.1]; decide) (H _ ⟨rfl, fun j hj => ?_, hu.2.2⟩))⟩
  rw [he, nI_clamp (by omega)]
  by_cases e : j = k
  · rw [e, pk_us, pk_us]
  · rw [pk_un e, pk_un e]
    exact hu.2.1 j hj
theorem lo_row0 {post : Int32 → St2 → Prop} {u : St2} {p0 p1 p2 p3 : Int32} (hn : ¬ (lo_ok p0 p1 p2 ∧ ¬ p3 < 0 ∧ p3 ≤ 10)) (H : post (-1) u) : wpX_row post u p0 p1 p2 p3 := by
  obtain ⟨r0, q0, d0, s0, e0, a1, a2, a3, a4, a5, a6, a7, a8, a9, a10, a11, a12, a13, a14⟩ := u
  by_cases hp : lo_ok p0 p1 p2
  · unfold wpX_row
    refine lo_isRow1 hp ?_
    exact br_f (by decide) (br_c (fun _ => H) (fun g => br_c (fun g2 => absurd ⟨hp, g, g2⟩ hn) (fun _ => H)))
  · unfold wpX_row
    refine lo_isRow0 hp ?_
    exact br_t rfl H
theorem lo_row1 {post : Int32 → St2 → Prop} {c : Nat → Int32} {u : St2} {p0 p1 p2 p3 : Int32} {k : Nat} (hu : lo_K 0 c u) (hp : lo_ok p0 p1 p2) (hk : k < 36) (he : ((9 * p0) + (3 * p1)) + p2 = nI k) (hc : ¬ 0 ≤ c k) (h0 : ¬ p3 < 0) (h10 : p3 ≤ 10) (H : ∀ u', lo_K 1 (upd c k p3) u' → post 1 u') : wpX_row post u p0 p1 p2 p3 := by
  obtain ⟨r0, q0, d0, s0, e0, a1, a2, a3, a4, a5, a6, a7, a8, a9, a10, a11, a12, a13, a14⟩ := u
  obtain ⟨rfl, h1, h3⟩ := hu
  unfold wpX_row
  refine lo_isRow1 hp ?_
  refine br_f (by decide) (br_f h0 (br_t h10 (nm_r he ⟨pk_in k 36 hk, br_f ?_ (br_t (by decide) (nm_r (show (0 : Int32) + 1 = 1 by decide) ⟨pk_in k 36 hk, nm_e (H _ ⟨rfl, fun j hj => ?_, h3⟩)⟩))⟩)))
  · rw [nI_clamp (by omega), h1 k hk]
    exact hc
  · rw [nI_clamp (by omega)]
    by_cases e : j = k
    · rw [e, pk_us, pk_us]
    · rw [pk_un e, pk_un e]
      exact h1 j hj
theorem lo_worlds {post : Int32 → St2 → Prop} {R : Int32} {P : Int64} {c : Nat → Int32} {u : St2} {r : Int32} (E : Nat → Int64) (hR : lo_P R P) (hu : lo_K R c u) (h0 : E 0 = 1) (hs : ∀ i, i < 36 → 0 ≤ c i → E i * 5 = E (i + 1)) (ht : ∀ i, i < 36 → ¬ 0 ≤ c i → E i * 1 = E (i + 1)) (hne : ¬ E 36 = 0) (hr : (P / E 36).toInt32 = r) (H : ∀ u', lo_K R c u' → post r u') : wpX_worlds post u := by
  obtain ⟨r0, q0, d0, s0, e0, a1, a2, a3, a4, a5, a6, a7, a8, a9, a10, a11, a12, a13, a14⟩ := u
  obtain ⟨rfl, h1, h3⟩ := hu
  refine pk_loop (fun n i (s : Int64 × (Nat → Int32)) => wX_worlds_4 post r0 q0 d0 s0 e0 n s.1 (nI i) a1 s.2 a3 a4 a5 a6 a7 a8 a9 a10 a11 a12 a13 a14) (fun i s => s.1 = E i) 36 0 (1, a2) (by omega) h0.symm ?_ ?_
  · intro n s h
    refine pk_le 36 36 (fun _ => lo_evalK (c := c) hR ⟨rfl, h1, h3⟩ (fun ⟨r0, q0, d0, s0, e0, a1, a2, a3, a4, a5, a6, a7, a8, a9, a10, a11, a12, a13, a14⟩ hu' => ?_)) (fun z => absurd z (by omega))
    have hs0 : ¬ s.1 = 0 := by rw [h]; exact hne
    refine br_f hs0 ⟨hs0, ?_⟩
    rw [h, hr]
    exact H _ hu'
  · intro n i s hi h hw
    refine pk_le 36 i (fun z => absurd z (by omega)) (fun _ => ⟨pk_in i 36 hi, br_c (fun g => ?_) (fun g => ?_)⟩)
    · have g' : 0 ≤ c i := by rw [nI_clamp (by omega), h1 i hi] at g; exact g
      exact ⟨pk_in i 36 hi, nm_e ⟨pk_in i 36 hi, br_t g (nm_r (by rw [h]; exact hs i hi g') (nm_r (nI_1 i) (hw (E (i + 1), _) rfl)))⟩⟩
    · have g' : ¬ 0 ≤ c i := by rw [nI_clamp (by omega), h1 i hi] at g; exact g
      exact ⟨pk_in i 36 hi, nm_e ⟨pk_in i 36 hi, br_f g (nm_r (by rw [h]; exact ht i hi g') (nm_r (nI_1 i) (hw (E (i + 1), _) rfl)))⟩⟩
end
section
theorem lo_m1 (n : Nat) (j : Nat) (_ : j < n) : (fun _ : Nat => (-1 : Int32)) j < 0 :=
  show (-1 : Int32) < 0 by decide
/-- the row is refused -/
theorem lo_lawB {post : Int32 → St0 → Prop} {mc ms kc ks : Nat} {p0 p1 p2 p3 : Int32} {r0 q0 d0 : Int32} {s0 : Int64} {e0 : Int32} {a1 a2 a3 a4 a5 a6 a7 a8 a9 a10 a11 a12 : Nat → Int32} {a13 : Nat → Int64} {a14 : Nat → Int32} (hu : lo_K 0 (fun _ => -1) (r0, q0, d0, s0, e0, a1, a2, a3, a4, a5, a6, a7, a8, a9, a10, a11, a12, a13, a14)) (hn : ¬ (lo_ok p0 p1 p2 ∧ ¬ p3 < 0 ∧ p3 ≤ 10)) (H : post 1 ()) : wL_lawOf_63 post mc ms p0 p1 p2 p3 0 kc ks r0 q0 d0 s0 e0 a1 a2 a3 a4 a5 a6 a7 a8 a9 a10 a11 a12 a13 a14 := by
  have hc : lo_ok p0 p1 p2 → ∀ j, j < 36 → (fun _ : Nat => (-1 : Int32)) j < 0 := fun _ => lo_m1 36
  have hR : lo_P 0 1 := Or.inl ⟨rfl, rfl⟩
  refine lo_row0 hn (br_t rfl (br_t rfl ?_))
  refine lo_worlds (r := 1) (fun _ => 1) hR hu rfl (fun i hi z => absurd z (by decide)) (fun i hi _ => by decide) (by decide) (by decide) (fun ⟨r0, q0, d0, s0, e0, a1, a2, a3, a4, a5, a6, a7, a8, a9, a10, a11, a12, a13, a14⟩ hu1 => br_t rfl (br_t rfl ?_))
  refine lo_with0 hu1 hc (br_t rfl (br_t (by decide) ?_))
  refine lo_without0 hR hu1 hc (fun ⟨r0, q0, d0, s0, e0, a1, a2, a3, a4, a5, a6, a7, a8, a9, a10, a11, a12, a13, a14⟩ hu2 => br_t rfl (br_t (by decide) ?_))
  refine lo_drop0 hu2 hc (br_t rfl (br_t rfl ?_))
  exact lo_weight hR hu2 (fun ⟨r0, q0, d0, s0, e0, a1, a2, a3, a4, a5, a6, a7, a8, a9, a10, a11, a12, a13, a14⟩ _ => br_t rfl H)
/-- the row is taken -/
theorem lo_lawA {post : Int32 → St0 → Prop} {mc ms kc ks : Nat} {p0 p1 p2 p3 : Int32} {r0 q0 d0 : Int32} {s0 : Int64} {e0 : Int32} {a1 a2 a3 a4 a5 a6 a7 a8 a9 a10 a11 a12 : Nat → Int32} {a13 : Nat → Int64} {a14 : Nat → Int32} (hu : lo_K 0 (fun _ => -1) (r0, q0, d0, s0, e0, a1, a2, a3, a4, a5, a6, a7, a8, a9, a10, a11, a12, a13, a14)) (hp : lo_ok p0 p1 p2) (h0 : ¬ p3 < 0) (h10 : p3 ≤ 10) (H : post 1 ()) : wL_lawOf_63 post mc ms p0 p1 p2 p3 1 kc ks r0 q0 d0 s0 e0 a1 a2 a3 a4 a5 a6 a7 a8 a9 a10 a11 a12 a13 a14 := by
  obtain ⟨k, hk, he⟩ := lo_at hp
  have hck : upd (fun _ : Nat => (-1 : Int32)) k p3 k = p3 := pk_us
  have hc : ¬ upd (fun _ : Nat => (-1 : Int32)) k p3 k < 0 := by rw [hck]; exact h0
  have hR : lo_P 1 10 := Or.inr ⟨rfl, rfl⟩
  have hz : ¬ (1 : Int32) = 0 := by decide
  refine lo_row1 hu hp hk he (by decide) h0 h10 (fun ⟨r0, q0, d0, s0, e0, a1, a2, a3, a4, a5, a6, a7, a8, a9, a10, a11, a12, a13, a14⟩ hu1 => br_f hz (br_t rfl ?_))
  refine lo_worlds (r := 2) (fun i => if i ≤ k then 1 else 5) hR hu1 (if_pos (Nat.zero_le k)) (fun i hi z => ?_) (fun i hi z => ?_) ?_ ?_ (fun ⟨r0, q0, d0, s0, e0, a1, a2, a3, a4, a5, a6, a7, a8, a9, a10, a11, a12, a13, a14⟩ hu2 => br_f hz (br_t rfl ?_))
  · by_cases e : i = k
    · rw [e, if_pos (Nat.le_refl k), if_neg (by omega)]; decide
    · rw [pk_un e] at z
      exact absurd z (by decide)
  · by_cases e : i = k
    · rw [e, hck] at z
      exact absurd (Int32.not_lt.mp h0) z
    · by_cases g : i ≤ k
      · rw [if_pos g, if_pos (by omega)]; decide
      · rw [if_neg g, if_neg (by omega)]; decide
  · rw [if_neg (by omega)]; decide
  · rw [if_neg (by omega)]; decide
  refine lo_with1 hu2 hp hk he hc (fun ⟨r0, q0, d0, s0, e0, a1, a2, a3, a4, a5, a6, a7, a8, a9, a10, a11, a12, a13, a14⟩ hu3 => br_f hz (br_t (by rw [hck]) ?_))
  refine lo_without1 hu3 hp hk he hc (fun ⟨r0, q0, d0, s0, e0, a1, a2, a3, a4, a5, a6, a7, a8, a9, a10, a11, a12, a13, a14⟩ hu4 => br_f hz (br_t (by rw [hck]) ?_))
  refine lo_drop1 hu4 hp hk he hc (fun ⟨r0, q0, d0, s0, e0, a1, a2, a3, a4, a5, a6, a7, a8, a9, a10, a11, a12, a13, a14⟩ hu5 => br_f hz (br_t rfl ?_))
  exact lo_weight (P := 1) (Or.inl ⟨rfl, rfl⟩) hu5 (fun ⟨r0, q0, d0, s0, e0, a1, a2, a3, a4, a5, a6, a7, a8, a9, a10, a11, a12, a13, a14⟩ _ => br_t rfl H)
theorem lo_law40 {post : Int32 → St0 → Prop} {mc ms kc ks : Nat} {p0 p1 p2 p3 : Int32} {r0 q0 d0 : Int32} {s0 : Int64} {e0 : Int32} {a1 a2 a3 a4 a5 a6 a7 a8 a9 a10 a11 a12 : Nat → Int32} {a13 : Nat → Int64} {a14 : Nat → Int32} (hu : lo_K 0 (fun _ => -1) (r0, q0, d0, s0, e0, a1, a2, a3, a4, a5, a6, a7, a8, a9, a10, a11, a12, a13, a14)) (hn : ¬ lo_ok p0 p1 p2) (H : post 1 ()) : wL_lawOf_40 post mc ms p0 p1 p2 p3 kc ks r0 q0 d0 s0 e0 a1 a2 a3 a4 a5 a6 a7 a8 a9 a10 a11 a12 a13 a14 :=
  br_t rfl (lo_lawB hu (fun t => hn t.1) H)
theorem lo_lawOf {post : Int32 → St0 → Prop} {p0 p1 p2 p3 : Int32} (H : post 1 ()) : wpL_lawOf post 15 579 () p0 p1 p2 p3 := by
  refine ⟨by omega, by omega, 14, 560, by omega, by omega, lo_init (fun ⟨r0, q0, d0, s0, e0, a1, a2, a3, a4, a5, a6, a7, a8, a9, a10, a11, a12, a13, a14⟩ hu => ?_)⟩
  refine br_c (fun g => lo_law40 hu (fun t => t.1 g) H) (fun h1 => ?_)
  refine br_c (fun g => lo_law40 hu (fun t => t.2.1 g) H) (fun h2 => ?_)
  refine br_c (fun g => lo_law40 hu (fun t => t.2.2.1 g) H) (fun h3 => ?_)
  refine br_c (fun g => lo_law40 hu (fun t => t.2.2.2.1 g) H) (fun h4 => ?_)
  refine br_c (fun g => lo_law40 hu (fun t => t.2.2.2.2.1 g) H) (fun h5 => ?_)
  refine br_c (fun g => lo_law40 hu (fun t => t.2.2.2.2.2 g) H) (fun h6 => ?_)
  refine br_f (by decide) (br_c (fun g => ?_) (fun g => br_c (fun g2 => ?_) (fun g2 => ?_)))
  · exact lo_lawB hu (fun t => t.2.1 g) H
  · exact lo_lawB hu (fun t => Int32.not_lt.mpr t.2.2 g2) H
  · exact lo_lawA hu ⟨h1, h2, h3, h4, h5, h6⟩ g (Int32.not_lt.mp g2) H
theorem lo_cell {post : Int32 → Prop} {L : Nat} {xs : Nat → Int32} {x : Int32} (i : Nat) (hL : L ≤ 4) (hi : i < 4) (hx : x = nI i) (H : ∀ r, post r) : wpL_cellAt post L xs () x :=
  pk_le L i (fun _ => H _) (fun z => ⟨pk_in i L z hx, H _⟩) rfl hx
theorem i_vc (xs : Nat → Int32) (L : Nat) (hL : L ≤ 4) : wpL_law (fun r => r = 1) L xs :=
  lo_cell 0 hL (by omega) rfl (fun _ => lo_cell 1 hL (by omega) rfl (fun _ => lo_cell 2 hL (by omega) rfl (fun _ => lo_cell 3 hL (by omega) rfl (fun _ => ⟨15, 579, by omega, by omega, lo_lawOf rfl⟩))))
end
