section
section
variable {c : Int32} {a1 a2 a3 a4 a5 a6 a7 a8 a9 : Nat → Int32}
/-- a place passes a filter in all three dimensions -/
def cv_ps (p f : Int32) : Prop := ((f >>> ((p - p / 4 * 4) &&& 31)) &&& 1) = 1 ∧ ((f >>> ((4 + ((p / 4) - (p / 4) / 5 * 5)) &&& 31)) &&& 1) = 1 ∧ ((f >>> ((9 + (p / 20)) &&& 31)) &&& 1) = 1
/-- the group of a place in a grouping -/
def cv_gr (p g : Int32) : Int32 := ((if g &&& 1 = 0 then 0 else p - p / 4 * 4) + (4 * (if g &&& 2 = 0 then 0 else (p / 4) - (p / 4) / 5 * 5))) + (20 * (if g &&& 4 = 0 then 0 else p / 20))
def cv_g3 (p : Int32) (b1 b2 b3 : Bool) : Int32 := ((cond b1 0 (p - p / 4 * 4)) + (4 * (cond b2 0 ((p / 4) - (p / 4) / 5 * 5)))) + (20 * (cond b3 0 (p / 20)))
theorem cv_g3_tab : ∀ k, k < 120 → ∀ b1 b2 b3 : Bool, (cv_g3 (nI k) b1 b2 b3).toNatClampNeg < 120 ∧ cv_g3 (nI k) b1 b2 b3 = nI (cv_g3 (nI k) b1 b2 b3).toNatClampNeg := by decide +kernel
theorem cv_gr3 (p g : Int32) : cv_gr p g = cv_g3 p (decide (g &&& 1 = 0)) (decide (g &&& 2 = 0)) (decide (g &&& 4 = 0)) := by
  unfold cv_gr cv_g3
  by_cases h1 : g &&& 1 = 0 <;> by_cases h2 : g &&& 2 = 0 <;> by_cases h3 : g &&& 4 = 0 <;> simp only [h1, h2, h3, if_true, if_false, decide_true, decide_false, cond_true, cond_false]
theorem cv_gr_in {k : Nat} (hk : k < 120) (g : Int32) : ∃ q, q < 120 ∧ cv_gr (nI k) g = nI q := by
  rw [cv_gr3]
  exact ⟨_, cv_g3_tab k hk _ _ _⟩
theorem cv_group {post : Int32 → Prop} {p g : Int32} (h : post (cv_gr p g)) : wpX_group post (c, a1, a2, a3, a4, a5, a6, a7, a8, a9) p g := by
  unfold cv_gr at h
  have d4 : ¬ (4 : Int32) = 0 := by decide
  have d5 : ¬ (5 : Int32) = 0 := by decide
  have d20 : ¬ (20 : Int32) = 0 := by decide
  refine br_c (fun h1 => ?_) (fun h1 => ⟨d4, ?_⟩)
  · rw [if_pos h1] at h
    refine br_c (fun h2 => ?_) (fun h2 => ⟨d4, d5, ?_⟩)
    · rw [if_pos h2] at h
      refine br_c (fun h3 => ?_) (fun h3 => ⟨d20, ?_⟩)
      · rw [if_pos h3] at h
        exact h
      · rw [if_neg h3] at h
        exact h
    · rw [if_neg h2] at h
      refine br_c (fun h3 => ?_) (fun h3 => ⟨d20, ?_⟩)
      · rw [if_pos h3] at h
        exact h
      · rw [if_neg h3] at h
        exact h
  · rw [if_neg h1] at h
    refine br_c (fun h2 => ?_) (fun h2 => ⟨d4, d5, ?_⟩)
    · rw [if_pos h2] at h
      refine br_c (fun h3 => ?_) (fun h3 => ⟨d20, ?_⟩)
      · rw [if_pos h3] at h
        exact h
      · rw [if_neg h3] at h
        exact h
    · rw [if_neg h2] at h
      refine br_c (fun h3 => ?_) (fun h3 => ⟨d20, ?_⟩)
      · rw [if_pos h3] at h
        exact h
      · rw [if_neg h3] at h
        exact h
/-- the group of a real place is a real place -/
theorem cv_groupN {post : Int32 → Prop} {k : Nat} {g : Int32} (hk : k < 120) (h : ∀ q, q < 120 → cv_gr (nI k) g = nI q → post (nI q)) : wpX_group post (c, a1, a2, a3, a4, a5, a6, a7, a8, a9) (nI k) g := by
  obtain ⟨q, hq, e⟩ := cv_gr_in hk g
  refine cv_group ?_
  rw [e]
  exact h q hq e
theorem cv_cells {post : Int32 → Prop} {x : Int32} (h : ∀ r, post r) : wpX_cells post (c, a1, a2, a3, a4, a5, a6, a7, a8, a9) x :=
  br_c (fun _ => br_c (fun _ => br_c (fun _ => h _) (fun _ => h _)) (fun _ => br_c (fun _ => h _) (fun _ => h _))) (fun _ => br_c (fun _ => br_c (fun _ => h _) (fun _ => h _)) (fun _ => br_c (fun _ => h _) (fun _ => h _)))
theorem cv_cuts {post : Int32 → Prop} {x : Int32} (h : ∀ r, post r) : wpX_cuts post (c, a1, a2, a3, a4, a5, a6, a7, a8, a9) x :=
  br_c (fun _ => br_c (fun _ => br_c (fun _ => h _) (fun _ => h _)) (fun _ => br_c (fun _ => h _) (fun _ => h _))) (fun _ => br_c (fun _ => br_c (fun _ => h _) (fun _ => h _)) (fun _ => br_c (fun _ => h _) (fun _ => h _)))
theorem cv_p81 {post : Int32 → Prop} {x4 x5 z0 : Int32} (h1 : ¬ x4 = 0 → ¬ x5 = 0 → ¬ z0 = 0 → post 1) (h0 : (x4 = 0 ∨ x5 = 0 ∨ z0 = 0) → post 0) : wX_passes_81 post x4 x5 z0 c a1 a2 a3 a4 a5 a6 a7 a8 a9 :=
  br_c (fun e => h0 (Or.inl e)) (fun e4 => br_c (fun e => h0 (Or.inr (Or.inl e))) (fun e5 => br_c (fun e => h0 (Or.inr (Or.inr e))) (fun e0 => h1 e4 e5 e0)))
theorem cv_passes {post : Int32 → Prop} {p f : Int32} (h1 : cv_ps p f → post 1) (h0 : ¬ cv_ps p f → post 0) : wpX_passes post (c, a1, a2, a3, a4, a5, a6, a7, a8, a9) p f 7 := by
  have d4 : ¬ (4 : Int32) = 0 := by decide
  have d5 : ¬ (5 : Int32) = 0 := by decide
  have d20 : ¬ (20 : Int32) = 0 := by decide
  have m1 : ¬ ((7 : Int32) &&& 1) = 0 := by decide
  have m2 : ¬ ((7 : Int32) &&& 2) = 0 := by decide
  have m4 : ¬ ((7 : Int32) &&& 4) = 0 := by decide
  have n1 : ¬ (1 : Int32) = 0 := by decide
  refine br_f m1 ⟨d4, br_c (fun g1 => ?_) (fun g1 => ?_)⟩
  · refine br_f m2 ⟨d4, d5, br_c (fun g2 => ?_) (fun g2 => ?_)⟩
    · refine br_f m4 ⟨d20, br_c (fun g3 => ?_) (fun g3 => ?_)⟩
      · exact cv_p81 (fun _ _ _ => h1 ⟨g1, g2, g3⟩) (fun z => absurd z (by decide))
      · exact cv_p81 (fun _ _ e => absurd rfl e) (fun _ => h0 (fun t => g3 t.2.2))
    · refine br_f m4 ⟨d20, br_c (fun g3 => ?_) (fun g3 => ?_)⟩
      · exact cv_p81 (fun _ e _ => absurd rfl e) (fun _ => h0 (fun t => g2 t.2.1))
      · exact cv_p81 (fun _ e _ => absurd rfl e) (fun _ => h0 (fun t => g2 t.2.1))
  · refine br_f m2 ⟨d4, d5, br_c (fun g2 => ?_) (fun g2 => ?_)⟩
    · refine br_f m4 ⟨d20, br_c (fun g3 => ?_) (fun g3 => ?_)⟩
      · exact cv_p81 (fun e _ _ => absurd rfl e) (fun _ => h0 (fun t => g1 t.1))
      · exact cv_p81 (fun e _ _ => absurd rfl e) (fun _ => h0 (fun t => g1 t.1))
    · refine br_f m4 ⟨d20, br_c (fun g3 => ?_) (fun g3 => ?_)⟩
      · exact cv_p81 (fun e _ _ => absurd rfl e) (fun _ => h0 (fun t => g1 t.1))
      · exact cv_p81 (fun e _ _ => absurd rfl e) (fun _ => h0 (fun t => g1 t.1))
theorem cv_badF {post : Int32 → Prop} {f : Int32} (h1 : (f < 0 ∨ 32767 < f) → post 1) (h0 : ¬ f < 0 → ¬ 32767 < f → post 0) : wpX_badFilter post (c, a1, a2, a3, a4, a5, a6, a7, a8, a9) f :=
  br_c (fun e => h1 (Or.inl e)) (fun e => br_c (fun g => h0 e (Int32.not_lt.mpr g)) (fun g => h1 (Or.inr (Int32.not_le.mp g))))
theorem cv_badG {post : Int32 → Prop} {g : Int32} (h1 : (g < 0 ∨ ¬ g ≤ 7) → post 1) (h0 : ¬ g < 0 → g ≤ 7 → post 0) : wpX_badGrouping post (c, a1, a2, a3, a4, a5, a6, a7, a8, a9) g := by
  have e : g < 8 ↔ g ≤ 7 := by
    rw [Int32.lt_iff_toInt_lt, Int32.le_iff_toInt_le, show (8 : Int32).toInt = 8 from rfl, show (7 : Int32).toInt = 7 from rfl]
    omega
  exact br_c (fun e0 => h1 (Or.inl e0)) (fun e0 => br_c (fun z => h0 e0 (e.mp z)) (fun z => h1 (Or.inr (fun y => z (e.mpr y)))))
/-- the place of a cell -/
theorem cv_at (i q : Nat) : 120 * nI i + nI q = nI (120 * i + q) := by
  rw [show (120 : Int32) = nI 120 from rfl, pk_mul, nI_add]
theorem cv_enter {post : St2 → Prop} {k : Nat} {x2 x3 : Int32} (hk : k < 120) (H : ∀ b6 b7, post (c, a1, a2, a3, a4, a5, b6, b7, a8, a9)) : wpX_enter post (c, a1, a2, a3, a4, a5, a6, a7, a8, a9) (nI k) x2 x3 :=
  pk_loop (σ := (Nat → Int32) × (Nat → Int32)) (fun n i s => wX_enter_3 post (nI k) x2 x3 c n (nI i) a1 a2 a3 a4 a5 s.1 s.2 a8 a9) (fun _ _ => True) 8 0 (a6, a7) (by omega) trivial
    (fun n s _ => pk_le 8 8 (fun _ => H s.1 s.2) (fun z => absurd z (by omega)))
    (fun n i s hi _ hw => pk_le 8 i (fun z => absurd z (by omega)) (fun _ => ⟨pk_in i 8 hi, br_c (fun _ => nm_r (nI_1 i) (hw s trivial)) (fun _ => cv_groupN hk (fun q hq _ => nm_r (cv_at i q) ⟨pk_in (120 * i + q) 960 (by omega), pk_in (120 * i + q) 960 (by omega), nm_e ⟨pk_in (120 * i + q) 960 (by omega), pk_in (120 * i + q) 960 (by omega), nm_e (nm_r (nI_1 i) (hw (_, _) trivial))⟩⟩))⟩))
end
end
section
section
variable {c : Int32} {a1 a2 a3 a4 a5 a6 a7 a8 a9 : Nat → Int32}
theorem cv_init {post : St2 → Prop} {mc ms : Nat} (h1 : 9 ≤ mc) (h2 : 2408 ≤ ms) (H : ∀ b3, post (c, (fun _ => 0), (fun _ => 0), b3, (fun _ => 0), (fun _ => 0), (fun _ => 0), (fun _ => 0), (fun _ => 0), (fun _ => 0))) : wpX_init post mc ms c := by
  refine ⟨by omega, by omega, by omega, by omega, by omega, by omega, by omega, by omega, by omega, by omega, by omega, by omega, by omega, by omega, by omega, by omega, by omega, by omega, ?_⟩
  exact pk_loop (fun n i s => wX_init_80 post mc ms 9 2408 c n (nI i) (fun _ => 0) (fun _ => 0) s (fun _ => 0) (fun _ => 0) (fun _ => 0) (fun _ => 0) (fun _ => 0) (fun _ => 0)) (fun _ _ => True) 120 0 (fun _ => 0) (by omega) trivial
    (fun n s _ => pk_le 120 120 (fun _ => H s) (fun z => absurd z (by omega)))
    (fun n i s hi _ hw => pk_le 120 i (fun z => absurd z (by omega)) (fun _ => ⟨pk_in i 120 hi, nm_e (nm_r (nI_1 i) (hw _ trivial))⟩))
/-- the law's 'in' -/
def cv_in (p a : Int32) : Prop := ¬ p < 0 ∧ ¬ 119 < p ∧ ¬ a < (-50) ∧ ¬ 50 < a
theorem cv_119 {p : Int32} : 120 ≤ p ↔ 119 < p := by
  rw [Int32.lt_iff_toInt_lt, Int32.le_iff_toInt_le, show (120 : Int32).toInt = 120 from rfl, show (119 : Int32).toInt = 119 from rfl]
  omega
theorem cv_add {post : Int32 → St2 → Prop} {p a : Int32} (H1 : cv_in p a → ∀ k, k < 120 → p = nI k → ∀ b3 b4 b6 b7, post 0 (1, upd a1 0 p, upd a2 0 a, b3, b4, a5, b6, b7, a8, a9)) (H0 : ¬ cv_in p a → post (-1000000) (0, a1, a2, a3, a4, a5, a6, a7, a8, a9)) : wpX_add post (0, a1, a2, a3, a4, a5, a6, a7, a8, a9) p a := by
  refine br_c (fun z => H0 (fun t => t.1 z)) (fun z0 => br_c (fun z => H0 (fun t => t.2.1 (cv_119.mp z))) (fun z1 => br_c (fun z => H0 (fun t => t.2.2.1 z)) (fun z2 => br_c (fun z3 => ?_) (fun z => H0 (fun t => z (Int32.not_lt.mp t.2.2.2))))))
  have z1' : ¬ 119 < p := fun y => z1 (cv_119.mpr y)
  obtain ⟨k, hk, e⟩ := nI_of2 (M := 119) (n := 119) rfl z0 (Int32.not_lt.mp z1')
  have hk' : k < 120 := by omega
  have hin : cv_in p a := ⟨z0, z1', z2, Int32.not_lt.mpr z3⟩
  have H1' : ∀ b3 b4 b6 b7, post ((1 : Int32) - 1) (1, upd a1 (0 : Int32).toNatClampNeg (nI k), upd a2 (0 : Int32).toNatClampNeg a, b3, b4, a5, b6, b7, a8, a9) := by
    intro b3 b4 b6 b7
    rw [show (1 : Int32) - 1 = 0 by decide, sb_cl0, ← e]
    exact H1 hin k hk' e b3 b4 b6 b7
  rw [e]
  exact br_f (by decide) ⟨pk_in 0 40 (by omega), nm_e ⟨pk_in 0 40 (by omega), nm_e ⟨pk_in k 120 hk', pk_in 0 40 (by omega), nm_e ⟨pk_in k 120 hk', nm_e (nm_r (e' := 1) (by decide) (cv_enter hk' (fun b6 b7 => H1' _ _ b6 b7)))⟩⟩⟩⟩
theorem cv_change0 {post : Int32 → St2 → Prop} {b : Int32} (H : post (-1000000) (0, a1, a2, a3, a4, a5, a6, a7, a8, a9)) : wpX_change post (0, a1, a2, a3, a4, a5, a6, a7, a8, a9) 0 b :=
  br_f (by decide) (br_t (by decide) H)
theorem cv_change1 {post : Int32 → St2 → Prop} {b : Int32} {k : Nat} (hk : k < 120) (e : a1 0 = nI k) (H1 : ¬ b < (-50) → ¬ 50 < b → ∀ b6 b7, post (a2 0) (1, a1, upd a2 0 b, a3, a4, a5, b6, b7, a8, a9)) (H0 : (b < (-50) ∨ 50 < b) → post (-1000000) (1, a1, a2, a3, a4, a5, a6, a7, a8, a9)) : wpX_change post (1, a1, a2, a3, a4, a5, a6, a7, a8, a9) 0 b := by
  refine br_f (by decide) (br_f (by decide) (br_c (fun z => H0 (Or.inl z)) (fun z2 => br_c (fun z3 => ⟨pk_in 0 40 (by omega), nm_e ⟨pk_in 0 40 (by omega), nm_e ⟨pk_in 0 40 (by omega), ?_⟩⟩⟩) (fun z => H0 (Or.inr (Int32.not_le.mp z))))))
  rw [sb_cl0, e]
  exact cv_enter hk (fun b6 b7 => H1 z2 (Int32.not_lt.mpr z3) b6 b7)
theorem cv_smallest {post : Int32 → Prop} {x : Int32} (h5 : ∀ j, j < 8 → a5 j = 0) (h : post (-1)) : wpX_smallest post (c, a1, a2, a3, a4, a5, a6, a7, a8, a9) x :=
  pk_loop (σ := Unit) (fun n i _ => wX_smallest_4 post x c a1 a2 a3 a4 a5 a6 a7 a8 a9 n (-1) (nI i)) (fun _ _ => True) 8 0 () (by omega) trivial
    (fun n _ _ => pk_le 8 8 (fun _ => h) (fun z => absurd z (by omega)))
    (fun n i _ hi _ hw => pk_le 8 i (fun z => absurd z (by omega)) (fun _ => ⟨pk_in i 8 hi, br_t (by rw [nI_clamp (by omega)]; exact h5 i hi) (nm_r (nI_1 i) (hw () trivial))⟩))
/-- the first n places of both group arrays are 0 -/
def cv_Z (n : Nat) (b8 b9 : Nat → Int32) : Prop := ∀ j, j < n → b8 j = 0 ∧ b9 j = 0
theorem cv_Zs {b8 b9 : Nat → Int32} {i k : Nat} (e : k = i) (h : cv_Z i b8 b9) : cv_Z (i + 1) (upd b8 k 0) (upd b9 k 0) := by
  intro j hj
  rw [e]
  by_cases g : j = i
  · rw [g, pk_us, pk_us]
    exact ⟨rfl, rfl⟩
  · rw [pk_un g, pk_un g]
    exact h j (by omega)
theorem cv_gather {post : St2 → Prop} {g f : Int32} (h5 : ∀ j, j < 8 → a5 j = 0) (H : ∀ b8 b9, cv_Z 120 b8 b9 → ∃ n, wX_gather_51 post g f n 0 c a1 a2 a3 a4 a5 a6 a7 b8 b9) : wpX_gather post (c, a1, a2, a3, a4, a5, a6, a7, a8, a9) g f :=
  pk_loop (σ := (Nat → Int32) × (Nat → Int32)) (fun n i s => wX_gather_2 post g f c n (nI i) a1 a2 a3 a4 a5 a6 a7 s.1 s.2) (fun i s => cv_Z i s.1 s.2) 120 0 (a8, a9) (by omega) (fun j hj => absurd hj (by omega))
    (fun n s hz => pk_le 120 120 (fun _ => cv_cuts (fun r => nm_e (cv_smallest h5 (br_f (by decide) (H s.1 s.2 hz))))) (fun z => absurd z (by omega)))
    (fun n i s hi hz hw => pk_le 120 i (fun z => absurd z (by omega)) (fun _ => ⟨pk_in i 120 hi, nm_e ⟨pk_in i 120 hi, nm_e (nm_r (nI_1 i) (hw (_, _) (cv_Zs (nI_clamp (by omega)) hz)))⟩⟩))
theorem cv_g51_0 {post : St2 → Prop} {g f : Int32} (H : post (0, a1, a2, a3, a4, a5, a6, a7, a8, a9)) : ∃ n, wX_gather_51 post g f n 0 0 a1 a2 a3 a4 a5 a6 a7 a8 a9 := ⟨0 + 1, br_t (by decide) H⟩
theorem cv_g51_1 {post : St2 → Prop} {g f : Int32} {k : Nat} (hk : k < 120) (e : a1 0 = nI k) (h1 : cv_ps (nI k) f → ∀ q, q < 120 → cv_gr (nI k) g = nI q → post (1, a1, a2, a3, a4, a5, a6, a7, upd a8 q (a8 q + 1), upd a9 q (a9 q + a2 0))) (h0 : ¬ cv_ps (nI k) f → post (1, a1, a2, a3, a4, a5, a6, a7, a8, a9)) : ∃ n, wX_gather_51 post g f n 0 1 a1 a2 a3 a4 a5 a6 a7 a8 a9 := by
  refine ⟨0 + 1 + 1, br_f (by decide) ⟨pk_in 0 40 (by omega), ?_⟩⟩
  rw [sb_cl0, e]
  refine cv_passes (fun hp => br_f (by decide) ⟨pk_in 0 40 (by omega), cv_groupN hk (fun q hq eq => ⟨pk_in 0 40 (by omega), ?_⟩)⟩) (fun hp => br_t rfl (nm_r (e' := 1) (by decide) (br_t (by decide) (h0 hp))))
  have h := h1 hp q hq eq
  refine ⟨pk_in q 120 hq, pk_in q 120 hq, nm_r (e' := upd a8 q (a8 q + 1)) (by rw [nI_clamp (by omega)]) ⟨pk_in q 120 hq, pk_in q 120 hq, nm_r (e' := upd a9 q (a9 q + a2 0)) (by rw [nI_clamp (by omega)]) (nm_r (e' := 1) (by decide) (br_t (by decide) h))⟩⟩
theorem cv_gr0 (p : Int32) : cv_gr p 0 = 0 := by
  unfold cv_gr
  rw [if_pos (by decide), if_pos (by decide), if_pos (by decide)]
  decide
theorem cv_sum0 {post : Int32 → St2 → Prop} {f : Int32} (h5 : ∀ j, j < 8 → a5 j = 0) (Hb : (f < 0 ∨ 32767 < f) → post (-1000000) (0, a1, a2, a3, a4, a5, a6, a7, a8, a9)) (H : ¬ f < 0 → ¬ 32767 < f → ∀ b8 b9, post 0 (0, a1, a2, a3, a4, a5, a6, a7, b8, b9)) : wpX_sum post (0, a1, a2, a3, a4, a5, a6, a7, a8, a9) f := by
  unfold wpX_sum
  refine cv_badF (fun z => br_f (by decide) (Hb z)) (fun z1 z2 => br_t rfl (cv_gather h5 (fun b8 b9 hz => cv_g51_0 ?_)))
  show post (b9 0) (0, a1, a2, a3, a4, a5, a6, a7, b8, b9)
  rw [(hz 0 (by omega)).2]
  exact H z1 z2 b8 b9
theorem cv_sum1 {post : Int32 → St2 → Prop} {f : Int32} {k : Nat} (h5 : ∀ j, j < 8 → a5 j = 0) (hk : k < 120) (e : a1 0 = nI k) (Hb : (f < 0 ∨ 32767 < f) → post (-1000000) (1, a1, a2, a3, a4, a5, a6, a7, a8, a9)) (H1 : ¬ f < 0 → ¬ 32767 < f → cv_ps (nI k) f → ∀ b8 b9, post (a2 0) (1, a1, a2, a3, a4, a5, a6, a7, b8, b9)) (H0 : ¬ f < 0 → ¬ 32767 < f → ¬ cv_ps (nI k) f → ∀ b8 b9, post 0 (1, a1, a2, a3, a4, a5, a6, a7, b8, b9)) : wpX_sum post (1, a1, a2, a3, a4, a5, a6, a7, a8, a9) f := by
  unfold wpX_sum
  refine cv_badF (fun z => br_f (by decide) (Hb z)) (fun z1 z2 => br_t rfl (cv_gather h5 (fun b8 b9 hz => cv_g51_1 hk e (fun hp q hq eq => ?_) (fun hp => ?_))))
  · show post (upd b9 q (b9 q + a2 0) 0) (1, a1, a2, a3, a4, a5, a6, a7, upd b8 q (b8 q + 1), upd b9 q (b9 q + a2 0))
    have q0 : q = 0 := by
      rw [cv_gr0, ← nI_0] at eq
      exact ((nI_eq (by omega) (by omega)).mp eq).symm
    have v : upd b9 q (b9 q + a2 0) 0 = a2 0 := by
      rw [q0, pk_us, (hz 0 (by omega)).2, Int32.zero_add]
    rw [v]
    exact H1 z1 z2 hp _ _
  · show post (b9 0) (1, a1, a2, a3, a4, a5, a6, a7, b8, b9)
    rw [(hz 0 (by omega)).2]
    exact H0 z1 z2 hp b8 b9
theorem cv_top0 {post : Int32 → St2 → Prop} (h8 : ∀ j, j < 120 → a8 j = 0) (H : post (-1) (c, a1, a2, a3, a4, a5, a6, a7, a8, a9)) : ∃ n, wX_top_11 post c a1 a2 a3 a4 a5 a6 a7 a8 a9 n (-1) 0 :=
  pk_loop (σ := Unit) (fun n i _ => wX_top_11 post c a1 a2 a3 a4 a5 a6 a7 a8 a9 n (-1) (nI i)) (fun _ _ => True) 120 0 () (by omega) trivial
    (fun n _ _ => pk_le 120 120 (fun _ => H) (fun z => absurd z (by omega)))
    (fun n i _ hi _ hw => pk_le 120 i (fun z => absurd z (by omega)) (fun _ => ⟨pk_in i 120 hi, br_t (by rw [nI_clamp (by omega), h8 i hi]; decide) (nm_r (nI_1 i) (hw () trivial))⟩))
theorem cv_top1 {post : Int32 → St2 → Prop} {q : Nat} (hq : q < 120) (h8 : ∀ j, j < 120 → j ≠ q → a8 j = 0) (hq8 : a8 q = 1) (H : post (nI q) (c, a1, a2, a3, a4, a5, a6, a7, a8, a9)) : ∃ n, wX_top_11 post c a1 a2 a3 a4 a5 a6 a7 a8 a9 n (-1) 0 := by
  refine pk_loop (fun n i s => wX_top_11 post c a1 a2 a3 a4 a5 a6 a7 a8 a9 n s (nI i)) (fun i s => (i ≤ q → s = -1) ∧ (q < i → s = nI q)) 120 0 (-1) (by omega) ⟨fun _ => rfl, fun z => absurd z (by omega)⟩ ?_ ?_
  · intro n s h
    have e : s = nI q := h.2 (by omega)
    rw [e]
    exact pk_le 120 120 (fun _ => H) (fun z => absurd z (by omega))
  · intro n i s hi h hw
    refine pk_le 120 i (fun z => absurd z (by omega)) (fun _ => ⟨pk_in i 120 hi, ?_⟩)
    rw [nI_clamp (show i < 2 ^ 31 by omega)]
    by_cases ei : i = q
    · have es : s = -1 := h.1 (by omega)
      rw [es]
      exact br_f (by rw [ei, hq8]; decide) (br_t (by decide) (nm_r (nI_1 i) (hw (nI i) ⟨fun z => absurd z (by omega), fun _ => by rw [ei]⟩)))
    · exact br_t (by rw [h8 i hi ei]; decide) (nm_r (nI_1 i) (hw s ⟨fun z => h.1 (by omega), fun z => h.2 (by omega)⟩))
theorem cv_tg0 {post : Int32 → St2 → Prop} {g f : Int32} (h5 : ∀ j, j < 8 → a5 j = 0) (Hb : ((f < 0 ∨ 32767 < f) ∨ g < 0 ∨ ¬ g ≤ 7) → post (-1000000) (0, a1, a2, a3, a4, a5, a6, a7, a8, a9)) (H : ¬ f < 0 → ¬ 32767 < f → ¬ g < 0 → g ≤ 7 → ∀ b8 b9, post (-4000000) (0, a1, a2, a3, a4, a5, a6, a7, b8, b9)) : wpX_topGroup post (0, a1, a2, a3, a4, a5, a6, a7, a8, a9) g f := by
  unfold wpX_topGroup
  refine cv_badG (fun z => br_f (by decide) (Hb (Or.inr z))) (fun g1 g2 => br_t rfl (cv_badF (fun z => br_f (by decide) (Hb (Or.inl z))) (fun f1 f2 => br_t rfl ?_)))
  unfold wpX_top
  exact cv_gather h5 (fun b8 b9 hz => cv_g51_0 (cv_top0 (fun j hj => (hz j hj).1) (br_f (by decide) (H f1 f2 g1 g2 b8 b9))))
theorem cv_tg1 {post : Int32 → St2 → Prop} {g f : Int32} {k : Nat} (h5 : ∀ j, j < 8 → a5 j = 0) (hk : k < 120) (e : a1 0 = nI k) (Hb : ((f < 0 ∨ 32767 < f) ∨ g < 0 ∨ ¬ g ≤ 7) → post (-1000000) (1, a1, a2, a3, a4, a5, a6, a7, a8, a9)) (H1 : ¬ f < 0 → ¬ 32767 < f → ¬ g < 0 → g ≤ 7 → cv_ps (nI k) f → ∀ b8 b9, post (cv_gr (nI k) g) (1, a1, a2, a3, a4, a5, a6, a7, b8, b9)) (H0 : ¬ f < 0 → ¬ 32767 < f → ¬ g < 0 → g ≤ 7 → ¬ cv_ps (nI k) f → ∀ b8 b9, post (-4000000) (1, a1, a2, a3, a4, a5, a6, a7, b8, b9)) : wpX_topGroup post (1, a1, a2, a3, a4, a5, a6, a7, a8, a9) g f := by
  unfold wpX_topGroup
  refine cv_badG (fun z => br_f (by decide) (Hb (Or.inr z))) (fun g1 g2 => br_t rfl (cv_badF (fun z => br_f (by decide) (Hb (Or.inl z))) (fun f1 f2 => br_t rfl ?_)))
  unfold wpX_top
  refine cv_gather h5 (fun b8 b9 hz => cv_g51_1 hk e (fun hp q hq eq => ?_) (fun hp => ?_))
  · refine cv_top1 (q := q) hq (fun j hj nj => by rw [pk_un nj]; exact (hz j hj).1) (by rw [pk_us, (hz q hq).1, Int32.zero_add]) ?_
    refine br_t (nI_pos' (by omega)) ?_
    rw [← eq]
    exact H1 f1 f2 g1 g2 hp _ _
  · exact cv_top0 (fun j hj => (hz j hj).1) (br_f (by decide) (H0 f1 f2 g1 g2 hp b8 b9))
end
end
section
section
variable {c : Int32} {a1 a2 a3 a4 a5 a6 a7 a8 a9 : Nat → Int32}
theorem cv_w41 {post : Int32 → Prop} {J4 J18 : Int32 → Int32 → Prop} {x1 x2 x3 x4 : Int32} {i : Nat} (h : ∀ y, J18 y (nI (i + 1))) : wX_workWith_41 post J4 J18 x1 x2 x3 x4 (nI i) c a1 a2 a3 a4 a5 a6 a7 a8 a9 :=
  br_c (fun _ => cv_cells (fun r => br_c (fun _ => nm_r (nI_1 i) (h _)) (fun _ => cv_cells (fun r2 => nm_r (nI_1 i) (h _))))) (fun _ => nm_r (nI_1 i) (h _))
theorem cv_w18 {post : Int32 → Prop} {J4 : Int32 → Int32 → Prop} {x1 x2 x3 x4 : Int32} (h : ∀ y, J4 y (x3 + 1)) : ∃ n, wX_workWith_18 post J4 x1 x2 x3 c a1 a2 a3 a4 a5 a6 a7 a8 a9 n x4 0 :=
  pk_loop (fun n i s => wX_workWith_18 post J4 x1 x2 x3 c a1 a2 a3 a4 a5 a6 a7 a8 a9 n s (nI i)) (fun _ _ => True) 8 0 x4 (by omega) trivial
    (fun n s _ => pk_le 8 8 (fun _ => nm_e (nm_e (h _))) (fun z => absurd z (by omega)))
    (fun n i s hi _ hw => pk_le 8 i (fun z => absurd z (by omega)) (fun _ => ⟨pk_in i 8 hi, br_c (fun _ => br_c (fun _ => cv_w41 (fun y => hw y trivial)) (fun _ => nm_r (nI_1 i) (hw s trivial))) (fun _ => cv_w41 (fun y => hw y trivial))⟩))
theorem cv_work {post : Int32 → Prop} {x : Int32} (h : ∀ r, post r) : wpX_workWith post (c, a1, a2, a3, a4, a5, a6, a7, a8, a9) x :=
  pk_loop (fun n i s => wX_workWith_4 post x c a1 a2 a3 a4 a5 a6 a7 a8 a9 n s (nI i)) (fun _ _ => True) 8 0 0 (by omega) trivial
    (fun n s _ => pk_le 8 8 (fun _ => h s) (fun z => absurd z (by omega)))
    (fun n i s hi _ hw => pk_le 8 i (fun z => absurd z (by omega)) (fun _ => cv_w18 (fun y => by rw [nI_1]; exact hw y trivial)))
theorem cv_f40 {post : St2 → Prop} {g m : Nat} (hg : g < 8) (hm : m ≤ 40) (h1 : ∀ j, j < m → ∃ k, k < 120 ∧ a1 j = nI k) (H : ∀ b6 b7, post (nI m, a1, a2, a3, a4, a5, b6, b7, a8, a9)) : ∃ n, wX_fill_40 post (nI g) (nI m) n 0 a1 a2 a3 a4 a5 a6 a7 a8 a9 := by
  refine pk_loop (σ := (Nat → Int32) × (Nat → Int32)) (fun n i s => wX_fill_40 post (nI g) (nI m) n (nI i) a1 a2 a3 a4 a5 s.1 s.2 a8 a9) (fun _ _ => True) m 0 (a6, a7) (by omega) trivial
    (fun n s _ => pk_le m m (fun _ => H s.1 s.2) (fun z => absurd z (by omega))) ?_
  intro n i s hi _ hw
  refine pk_le m i (fun z => absurd z (by omega)) (fun _ => ⟨pk_in i 40 (by omega), ?_⟩)
  obtain ⟨k, hk, e⟩ := h1 i hi
  rw [nI_clamp (show i < 2 ^ 31 by omega), e]
  exact cv_groupN hk (fun q hq _ => nm_r (cv_at g q) ⟨pk_in (120 * g + q) 960 (by omega), pk_in (120 * g + q) 960 (by omega), nm_e ⟨pk_in (120 * g + q) 960 (by omega), pk_in i 40 (by omega), pk_in (120 * g + q) 960 (by omega), nm_e (nm_r (nI_1 i) (hw (_, _) trivial))⟩⟩)
theorem cv_fill {post : St2 → Prop} {g m : Nat} (hg : g < 8) (hm : m ≤ 40) (h1 : ∀ j, j < m → ∃ k, k < 120 ∧ a1 j = nI k) (H : ∀ b6 b7, post (nI m, a1, a2, a3, a4, a5, b6, b7, a8, a9)) : wpX_fill post (nI m, a1, a2, a3, a4, a5, a6, a7, a8, a9) (nI g) :=
  pk_loop (σ := (Nat → Int32) × (Nat → Int32)) (fun n i s => wX_fill_2 post (nI g) (nI m) n (nI i) a1 a2 a3 a4 a5 s.1 s.2 a8 a9) (fun _ _ => True) 120 0 (a6, a7) (by omega) trivial
    (fun n s _ => pk_le 120 120 (fun _ => cv_f40 hg hm h1 H) (fun z => absurd z (by omega)))
    (fun n i s hi _ hw => pk_le 120 i (fun z => absurd z (by omega)) (fun _ => ⟨pk_in (120 * g + i) 960 (by omega) (cv_at g i), nm_e ⟨pk_in (120 * g + i) 960 (by omega) (cv_at g i), nm_e (nm_r (nI_1 i) (hw (_, _) trivial))⟩⟩))
theorem cv_p138 {post : Int32 → St2 → Prop} {J42 : Int32 → Int32 → Int32 → Int32 → (Nat → Int32) → (Nat → Int32) → (Nat → Int32) → (Nat → Int32) → (Nat → Int32) → (Nat → Int32) → (Nat → Int32) → (Nat → Int32) → (Nat → Int32) → Prop} {x2 x4 x6 z0 : Int32} {m : Nat} (hm : m ≤ 40) (h1 : ∀ j, j < m → ∃ k, k < 120 ∧ a1 j = nI k) (h6 : ¬ z0 = 0 → ∃ q, q < 8 ∧ x6 = nI q) (HJ : ∀ y z b5 b6 b7, J42 y z (x4 + 1) (nI m) a1 a2 a3 a4 b5 b6 b7 a8 a9) : wX_plan_138 post J42 x2 x4 x6 z0 (nI m) a1 a2 a3 a4 a5 a6 a7 a8 a9 := by
  refine br_c (fun _ => nm_e (HJ _ _ _ _ _)) (fun z => ?_)
  obtain ⟨q, hq, e⟩ := h6 z
  rw [e]
  exact ⟨pk_in q 8 hq, nm_e (cv_cells (fun r => nm_e (cv_fill hq hm h1 (fun b6 b7 => nm_e (HJ _ _ _ _ _)))))⟩
theorem cv_p69 {post : Int32 → St2 → Prop} {J42 : Int32 → Int32 → Int32 → Int32 → (Nat → Int32) → (Nat → Int32) → (Nat → Int32) → (Nat → Int32) → (Nat → Int32) → (Nat → Int32) → (Nat → Int32) → (Nat → Int32) → (Nat → Int32) → Prop} {x2 x4 x5 : Int32} {m : Nat} (hm : m ≤ 40) (h1 : ∀ j, j < m → ∃ k, k < 120 ∧ a1 j = nI k) (HJ : ∀ y z b5 b6 b7, J42 y z (x4 + 1) (nI m) a1 a2 a3 a4 b5 b6 b7 a8 a9) : ∃ n, wX_plan_69 post J42 x2 x4 x5 (nI m) a1 a2 a3 a4 a5 a6 a7 a8 a9 n (-1) 0 0 := by
  refine pk_loop (σ := Int32 × Int32) (fun n i s => wX_plan_69 post J42 x2 x4 x5 (nI m) a1 a2 a3 a4 a5 a6 a7 a8 a9 n s.1 s.2 (nI i)) (fun _ s => ¬ s.1 < 0 → ∃ q, q < 8 ∧ s.1 = nI q) 8 0 (-1, 0) (by omega) (fun z => absurd (show (-1 : Int32) < 0 by decide) z) ?_ ?_
  · intro n s h
    exact pk_le 8 8 (fun _ => br_c (fun _ => cv_p138 hm h1 (fun z => absurd rfl z) HJ) (fun z => cv_p138 hm h1 (fun _ => h z) HJ)) (fun z => absurd z (by omega))
  · intro n i s hi h hw
    exact pk_le 8 i (fun z => absurd z (by omega)) (fun _ => cv_work (fun r => nm_e ⟨pk_in i 8 hi, br_c (fun _ => cv_cells (fun r2 => br_c (fun _ => nm_r (nI_1 i) (hw s h)) (fun _ => br_c (fun _ => nm_r (nI_1 i) (hw s h)) (fun _ => nm_r (nI_1 i) (hw (nI i, _) (fun _ => ⟨i, hi, rfl⟩)))))) (fun _ => nm_r (nI_1 i) (hw s h))⟩))
theorem cv_p42 {post : Int32 → St2 → Prop} {x2 x3 : Int32} {m : Nat} (hm : m ≤ 40) (h1 : ∀ j, j < m → ∃ k, k < 120 ∧ a1 j = nI k) (H : ∀ b5 b6 b7, post 0 (nI m, a1, a2, a3, a4, b5, b6, b7, a8, a9)) : ∃ n, wX_plan_42 post n x2 x3 0 (nI m) a1 a2 a3 a4 a5 a6 a7 a8 a9 := by
  refine pk_loop (σ := Int32 × Int32 × (Nat → Int32) × (Nat → Int32) × (Nat → Int32)) (fun n i s => wX_plan_42 post n s.1 s.2.1 (nI i) (nI m) a1 a2 a3 a4 s.2.2.1 s.2.2.2.1 s.2.2.2.2 a8 a9) (fun _ _ => True) 8 0 (x2, x3, a5, a6, a7) (by omega) trivial ?_ ?_
  · intro n s _
    exact pk_le 8 8 (fun _ => H _ _ _) (fun z => absurd z (by omega))
  · intro n i s hi _ hw
    exact pk_le 8 i (fun z => absurd z (by omega)) (fun _ => br_c (fun _ => H _ _ _) (fun _ => cv_work (fun r => cv_p69 hm h1 (fun y z b5 b6 b7 => by rw [nI_1]; exact hw (y, z, b5, b6, b7) trivial))))
theorem cv_plan {post : Int32 → St2 → Prop} {f : Int32} {m : Nat} (hm : m ≤ 40) (h1 : ∀ j, j < m → ∃ k, k < 120 ∧ a1 j = nI k) (Hb : (f < 0 ∨ 200 < f) → post (-1000000) (nI m, a1, a2, a3, a4, a5, a6, a7, a8, a9)) (H : ¬ f < 0 → ¬ 200 < f → ∀ b5 b6 b7, post 0 (nI m, a1, a2, a3, a4, b5, b6, b7, a8, a9)) : wpX_plan post (nI m, a1, a2, a3, a4, a5, a6, a7, a8, a9) f := by
  refine br_c (fun z => Hb (Or.inl z)) (fun z0 => br_c (fun z => ?_) (fun z => Hb (Or.inr (Int32.not_le.mp z))))
  have H' := H z0 (Int32.not_lt.mpr z)
  exact pk_loop (fun n i s => wX_plan_16 post f (nI m) n (nI i) a1 a2 a3 a4 s a6 a7 a8 a9) (fun _ _ => True) 8 0 a5 (by omega) trivial
    (fun n s _ => pk_le 8 8 (fun _ => cv_p42 hm h1 H') (fun z => absurd z (by omega)))
    (fun n i s hi _ hw => pk_le 8 i (fun z => absurd z (by omega)) (fun _ => ⟨pk_in i 8 hi, nm_e (nm_r (nI_1 i) (hw _ trivial))⟩))
theorem cv_remove0 {post : Int32 → St2 → Prop} (H : post (-4000000) (0, a1, a2, a3, a4, a5, a6, a7, a8, a9)) : wpX_remove post (0, a1, a2, a3, a4, a5, a6, a7, a8, a9) := br_t rfl H
theorem cv_remove1 {post : Int32 → St2 → Prop} {k : Nat} (hk : k < 120) (e : a1 0 = nI k) (H : ∀ u, post (a2 0) u) : wpX_remove post (1, a1, a2, a3, a4, a5, a6, a7, a8, a9) := by
  refine br_f (by decide) (nm_r (e' := 0) (by decide) ⟨pk_in 0 40 (by omega), nm_r (e' := nI k) (by rw [sb_cl0, e]) ⟨pk_in 0 40 (by omega), pk_in k 120 hk, nm_e ⟨pk_in 0 40 (by omega), cv_enter hk (fun b6 b7 => ⟨pk_in 0 40 (by omega), ?_⟩)⟩⟩⟩)
  rw [sb_cl0]
  exact H _
end
end
section
section
variable {c : Int32} {a1 a2 a3 a4 a5 a6 a7 a8 a9 : Nat → Int32}
/-- what sum answers -/
def cv_RS (ok : Prop) (f v r : Int32) : Prop := ((f < 0 ∨ 32767 < f) → r = (-1000000)) ∧ (¬ f < 0 → ¬ 32767 < f → ok → r = v) ∧ (¬ f < 0 → ¬ 32767 < f → ¬ ok → r = 0)
/-- what topGroup answers -/
def cv_RT (ok : Prop) (f g v r : Int32) : Prop := (((f < 0 ∨ 32767 < f) ∨ g < 0 ∨ ¬ g ≤ 7) → r = (-1000000)) ∧ (¬ f < 0 → ¬ 32767 < f → ¬ g < 0 → g ≤ 7 → ok → r = v) ∧ (¬ f < 0 → ¬ 32767 < f → ¬ g < 0 → g ≤ 7 → ¬ ok → r = (-4000000))
/-- what plan answers -/
def cv_RP (f r : Int32) : Prop := ((f < 0 ∨ 200 < f) → r = (-1000000)) ∧ (¬ f < 0 → ¬ 200 < f → r = 0)
theorem cv_sumR0 {post : Int32 → St2 → Prop} {ok : Prop} {f v : Int32} (h5 : ∀ j, j < 8 → a5 j = 0) (hn : ¬ ok) (H : ∀ r b8 b9, cv_RS ok f v r → post r (0, a1, a2, a3, a4, a5, a6, a7, b8, b9)) : wpX_sum post (0, a1, a2, a3, a4, a5, a6, a7, a8, a9) f :=
  cv_sum0 h5 (fun z => H _ _ _ ⟨fun _ => rfl, fun y1 y2 _ => absurd z (fun t => t.elim y1 y2), fun y1 y2 _ => absurd z (fun t => t.elim y1 y2)⟩)
    (fun z1 z2 b8 b9 => H _ b8 b9 ⟨fun z => absurd z (fun t => t.elim z1 z2), fun _ _ k => absurd k hn, fun _ _ _ => rfl⟩)
theorem cv_sumR1 {post : Int32 → St2 → Prop} {ok : Prop} {f v : Int32} {k : Nat} (h5 : ∀ j, j < 8 → a5 j = 0) (hk : k < 120) (e : a1 0 = nI k) (hv : a2 0 = v) (ho : ok ↔ cv_ps (nI k) f) (H : ∀ r b8 b9, cv_RS ok f v r → post r (1, a1, a2, a3, a4, a5, a6, a7, b8, b9)) : wpX_sum post (1, a1, a2, a3, a4, a5, a6, a7, a8, a9) f :=
  cv_sum1 h5 hk e (fun z => H _ _ _ ⟨fun _ => rfl, fun y1 y2 _ => absurd z (fun t => t.elim y1 y2), fun y1 y2 _ => absurd z (fun t => t.elim y1 y2)⟩)
    (fun z1 z2 hp b8 b9 => H _ b8 b9 ⟨fun z => absurd z (fun t => t.elim z1 z2), fun _ _ _ => hv, fun _ _ n => absurd (ho.mpr hp) n⟩)
    (fun z1 z2 hp b8 b9 => H _ b8 b9 ⟨fun z => absurd z (fun t => t.elim z1 z2), fun _ _ n => absurd (ho.mp n) hp, fun _ _ _ => rfl⟩)
theorem cv_bad {f g : Int32} (f1 : ¬ f < 0) (f2 : ¬ 32767 < f) (g1 : ¬ g < 0) (g2 : g ≤ 7) : ¬ ((f < 0 ∨ 32767 < f) ∨ g < 0 ∨ ¬ g ≤ 7) := fun t => t.elim (fun s => s.elim f1 f2) (fun s => s.elim g1 (fun n => n g2))
theorem cv_tgR0 {post : Int32 → St2 → Prop} {ok : Prop} {f g v : Int32} (h5 : ∀ j, j < 8 → a5 j = 0) (hn : ¬ ok) (H : ∀ r b8 b9, cv_RT ok f g v r → post r (0, a1, a2, a3, a4, a5, a6, a7, b8, b9)) : wpX_topGroup post (0, a1, a2, a3, a4, a5, a6, a7, a8, a9) g f :=
  cv_tg0 h5 (fun z => H _ _ _ ⟨fun _ => rfl, fun y1 y2 y3 y4 _ => absurd z (cv_bad y1 y2 y3 y4), fun y1 y2 y3 y4 _ => absurd z (cv_bad y1 y2 y3 y4)⟩)
    (fun z1 z2 z3 z4 b8 b9 => H _ b8 b9 ⟨fun z => absurd z (cv_bad z1 z2 z3 z4), fun _ _ _ _ k => absurd k hn, fun _ _ _ _ _ => rfl⟩)
theorem cv_tgR1 {post : Int32 → St2 → Prop} {ok : Prop} {f g v : Int32} {k : Nat} (h5 : ∀ j, j < 8 → a5 j = 0) (hk : k < 120) (e : a1 0 = nI k) (hv : cv_gr (nI k) g = v) (ho : ok ↔ cv_ps (nI k) f) (H : ∀ r b8 b9, cv_RT ok f g v r → post r (1, a1, a2, a3, a4, a5, a6, a7, b8, b9)) : wpX_topGroup post (1, a1, a2, a3, a4, a5, a6, a7, a8, a9) g f :=
  cv_tg1 h5 hk e (fun z => H _ _ _ ⟨fun _ => rfl, fun y1 y2 y3 y4 _ => absurd z (cv_bad y1 y2 y3 y4), fun y1 y2 y3 y4 _ => absurd z (cv_bad y1 y2 y3 y4)⟩)
    (fun z1 z2 z3 z4 hp b8 b9 => H _ b8 b9 ⟨fun z => absurd z (cv_bad z1 z2 z3 z4), fun _ _ _ _ _ => hv, fun _ _ _ _ n => absurd (ho.mpr hp) n⟩)
    (fun z1 z2 z3 z4 hp b8 b9 => H _ b8 b9 ⟨fun z => absurd z (cv_bad z1 z2 z3 z4), fun _ _ _ _ n => absurd (ho.mp n) hp, fun _ _ _ _ _ => rfl⟩)
theorem cv_planR {post : Int32 → St2 → Prop} {f : Int32} (m : Nat) (hc : c = nI m) (hm : m ≤ 40) (h1 : ∀ j, j < m → ∃ k, k < 120 ∧ a1 j = nI k) (H : ∀ r b5 b6 b7, cv_RP f r → post r (c, a1, a2, a3, a4, b5, b6, b7, a8, a9)) : wpX_plan post (c, a1, a2, a3, a4, a5, a6, a7, a8, a9) f := by
  subst hc
  exact cv_plan hm h1 (fun z => H _ _ _ _ ⟨fun _ => rfl, fun y1 y2 => absurd z (fun t => t.elim y1 y2)⟩) (fun z1 z2 b5 b6 b7 => H _ b5 b6 b7 ⟨fun z => absurd z (fun t => t.elim z1 z2), fun _ _ => rfl⟩)
/-- what the law's last checks ask -/
def cv_K (x1 x3 x4 x6 x7 x8 x9 x10 x11 x12 x13 x14 x15 x19 x20 : Int32) : Prop :=
  ((x12 = 0 → x11 = (-4000000)) ∧ (¬ x12 = 0 → x11 = x14)) ∧ cv_RP x3 x10
  ∧ (((x15 = 0 ∨ x4 < 0 ∨ ¬ x4 ≤ 7) → x9 = (-1000000)) ∧ (¬ x15 = 0 → ¬ x4 < 0 → x4 ≤ 7 → x19 = 0 → x9 = (-4000000)) ∧ (¬ x15 = 0 → ¬ x4 < 0 → x4 ≤ 7 → ¬ x19 = 0 → x9 = x20))
  ∧ ((x15 = 0 → x8 = (-1000000)) ∧ (¬ x15 = 0 → x19 = 0 → x8 = 0) ∧ (¬ x15 = 0 → ¬ x19 = 0 → x8 = x14))
  ∧ ((x13 = 0 → x7 = (-1000000)) ∧ (¬ x13 = 0 → x7 = x1)) ∧ ((x12 = 0 → x6 = (-1000000)) ∧ (¬ x12 = 0 → x6 = 0))
end
section
variable {post : Int32 → St0 → Prop} {mc ms kc ks : Nat} {x0 x1 x2 x3 x4 x6 x7 x8 x9 x10 x11 x12 x13 x14 x15 x16 x17 x18 x19 : Int32}
theorem cv_285 {z0 z1 : Int32} (hp : post 1 ()) (K : cv_K x1 x3 x4 x6 x7 x8 x9 x10 x11 x12 x13 x14 x15 x19 (z1 + z0)) : wL_lawOf_285 post mc ms x1 x3 x4 x6 x7 x8 x9 x10 x11 x12 x13 x14 x15 x19 z0 z1 kc ks := by
  obtain ⟨⟨g0, g1⟩, ⟨p0, p1⟩, ⟨t0, t1, t2⟩, ⟨s0, s1, s2⟩, ⟨o0, o1⟩, ⟨d0, d1⟩⟩ := K
  have h404 : ∀ y0 y1, y1 = y0 → wL_lawOf_404 post mc ms x11 x12 x14 y0 y1 kc ks := fun y0 y1 h => br_t h (br_c (fun z => br_t (g0 z) hp) (fun z => br_t (g1 z) hp))
  have h382 : ∀ y0 y1, y1 = y0 → wL_lawOf_382 post mc ms x3 x10 x11 x12 x14 y0 y1 kc ks := fun y0 y1 h => br_t h (br_c (fun z => h404 _ _ (p0 (Or.inl z))) (fun z => br_c (fun y => h404 _ _ (p0 (Or.inr y))) (fun y => h404 _ _ (p1 z y))))
  have h343 : ∀ y0 y1, y1 = y0 → wL_lawOf_343 post mc ms x3 x4 x9 x10 x11 x12 x14 x15 x19 (z1 + z0) y0 y1 kc ks := fun y0 y1 h => br_t h (br_c (fun z => h382 _ _ (t0 (Or.inl z))) (fun z15 => br_c (fun z => h382 _ _ (t0 (Or.inr (Or.inl z)))) (fun z4 => br_c (fun z7 => br_c (fun z => h382 _ _ (t1 z15 z4 z7 z)) (fun z => h382 _ _ (t2 z15 z4 z7 z))) (fun z => h382 _ _ (t0 (Or.inr (Or.inr z)))))))
  have h317 : ∀ y0 y1, y1 = y0 → wL_lawOf_317 post mc ms x3 x4 x8 x9 x10 x11 x12 x14 x15 x19 (z1 + z0) y0 y1 kc ks := fun y0 y1 h => br_t h (br_c (fun z => h343 _ _ (s0 z)) (fun z15 => br_c (fun z => h343 _ _ (s1 z15 z)) (fun z => h343 _ _ (s2 z15 z))))
  have h301 : ∀ y0 y1, y1 = y0 → wL_lawOf_301 post mc ms x1 x3 x4 x7 x8 x9 x10 x11 x12 x13 x14 x15 x19 (z1 + z0) y0 y1 kc ks := fun y0 y1 h => br_t h (br_c (fun z => h317 _ _ (o0 z)) (fun z => h317 _ _ (o1 z)))
  exact nm_e (br_c (fun z => h301 _ _ (d0 z)) (fun z => h301 _ _ (d1 z)))
/-- the law's own group -/
def cv_G (r k m g : Int32) : Int32 := ((if g &&& 1 = 0 then 0 else r) + (if g &&& 2 = 0 then 0 else 4 * k)) + (if g &&& 4 = 0 then 0 else 20 * m)
theorem cv_G_gr (p g : Int32) : cv_G (p - p / 4 * 4) ((p / 4) - (p / 4) / 5 * 5) (p / 20) g = cv_gr p g := by
  unfold cv_G cv_gr
  have e2 : (if g &&& 2 = 0 then (0 : Int32) else 4 * ((p / 4) - (p / 4) / 5 * 5)) = 4 * (if g &&& 2 = 0 then 0 else (p / 4) - (p / 4) / 5 * 5) := by
    by_cases h : g &&& 2 = 0
    · rw [if_pos h, if_pos h]
      decide
    · rw [if_neg h, if_neg h]
  have e4 : (if g &&& 4 = 0 then (0 : Int32) else 20 * (p / 20)) = 20 * (if g &&& 4 = 0 then 0 else p / 20) := by
    by_cases h : g &&& 4 = 0
    · rw [if_pos h, if_pos h]
      decide
    · rw [if_neg h, if_neg h]
  rw [e2, e4]
theorem cv_238 (hp : post 1 ()) (K : cv_K x1 x3 x4 x6 x7 x8 x9 x10 x11 x12 x13 x14 x15 x19 (cv_G x16 x17 x18 x4)) : wL_lawOf_238 post mc ms x1 x3 x4 x6 x7 x8 x9 x10 x11 x12 x13 x14 x15 x16 x17 x18 x19 kc ks := by
  unfold cv_G at K
  refine br_c (fun h1 => br_c (fun h2 => br_c (fun h3 => ?_) (fun h3 => ?_)) (fun h2 => br_c (fun h3 => ?_) (fun h3 => ?_))) (fun h1 => br_c (fun h2 => br_c (fun h3 => ?_) (fun h3 => ?_)) (fun h2 => br_c (fun h3 => ?_) (fun h3 => ?_)))
  · rw [if_pos h1, if_pos h2, if_pos h3] at K
    exact cv_285 hp K
  · rw [if_pos h1, if_pos h2, if_neg h3] at K
    exact cv_285 hp K
  · rw [if_pos h1, if_neg h2, if_pos h3] at K
    exact cv_285 hp K
  · rw [if_pos h1, if_neg h2, if_neg h3] at K
    exact cv_285 hp K
  · rw [if_neg h1, if_pos h2, if_pos h3] at K
    exact cv_285 hp K
  · rw [if_neg h1, if_pos h2, if_neg h3] at K
    exact cv_285 hp K
  · rw [if_neg h1, if_neg h2, if_pos h3] at K
    exact cv_285 hp K
  · rw [if_neg h1, if_neg h2, if_neg h3] at K
    exact cv_285 hp K
theorem cv_186 (hp : post 1 ()) (K0 : ¬ (¬ x12 = 0 ∧ ¬ x15 = 0 ∧ ((x3 >>> (x16 &&& 31)) &&& 1) = 1 ∧ ((x3 >>> ((4 + x17) &&& 31)) &&& 1) = 1 ∧ ((x3 >>> ((9 + x18) &&& 31)) &&& 1) = 1) → ∀ y, cv_K x1 x3 x4 x6 x7 x8 x9 x10 x11 x12 x13 x14 x15 0 y)
    (K1 : ¬ x12 = 0 → ¬ x15 = 0 → ((x3 >>> (x16 &&& 31)) &&& 1) = 1 → ((x3 >>> ((4 + x17) &&& 31)) &&& 1) = 1 → ((x3 >>> ((9 + x18) &&& 31)) &&& 1) = 1 → cv_K x1 x3 x4 x6 x7 x8 x9 x10 x11 x12 x13 x14 x15 1 (cv_G x16 x17 x18 x4)) :
    wL_lawOf_186 post mc ms x1 x3 x4 x6 x7 x8 x9 x10 x11 x12 x13 x14 x15 x16 x17 x18 kc ks :=
  br_c (fun z => cv_238 hp (K0 (fun t => t.1 z) _)) (fun z12 => br_c (fun z => cv_238 hp (K0 (fun t => t.2.1 z) _)) (fun z15 => br_c (fun b1 => br_c (fun b2 => br_c (fun b3 => cv_238 hp (K1 z12 z15 b1 b2 b3)) (fun z => cv_238 hp (K0 (fun t => z t.2.2.2.2) _))) (fun z => cv_238 hp (K0 (fun t => z t.2.2.2.1) _))) (fun z => cv_238 hp (K0 (fun t => z t.2.2.1) _))))
theorem cv_141 (hp : post 1 ()) (K0 : ¬ (¬ x12 = 0 ∧ ¬ x15 = 0 ∧ cv_ps x0 x3) → ∀ y, cv_K x1 x3 x4 x6 x7 x8 x9 x10 x11 x12 x13 x14 x15 0 y)
    (K1 : ¬ x12 = 0 → ¬ x15 = 0 → cv_ps x0 x3 → cv_K x1 x3 x4 x6 x7 x8 x9 x10 x11 x12 x13 x14 x15 1 (cv_gr x0 x4)) :
    wL_lawOf_141 post mc ms x0 x1 x3 x4 x6 x7 x8 x9 x10 x11 x12 x13 x14 x15 kc ks := by
  have d4 : ¬ (4 : Int32) = 0 := by decide
  have d5 : ¬ (5 : Int32) = 0 := by decide
  have d20 : ¬ (20 : Int32) = 0 := by decide
  refine br_c (fun h => br_t h (br_t h (cv_186 hp (fun _ y => K0 (fun t => t.1 h) y) (fun h' => absurd h h')))) (fun h => ⟨d4, br_f h ⟨d4, d5, br_f h ⟨d20, cv_186 hp (fun n y => K0 (fun t => n ⟨t.1, t.2.1, t.2.2.1, t.2.2.2.1, t.2.2.2.2⟩) y) (fun z12 z15 b1 b2 b3 => ?_)⟩⟩⟩)
  rw [cv_G_gr]
  exact K1 z12 z15 ⟨b1, b2, b3⟩
theorem cv_123 (hp : post 1 ()) (hS : cv_RS (¬ x12 = 0 ∧ cv_ps x0 x3) x3 x14 x8) (hT : cv_RT (¬ x12 = 0 ∧ cv_ps x0 x3) x3 x4 (cv_gr x0 x4) x9) (hP : cv_RP x3 x10) (g0 : x12 = 0 → x11 = (-4000000)) (g1 : ¬ x12 = 0 → x11 = x14) (o0 : x13 = 0 → x7 = (-1000000)) (o1 : ¬ x13 = 0 → x7 = x1) (d0 : x12 = 0 → x6 = (-1000000)) (d1 : ¬ x12 = 0 → x6 = 0) :
    wL_lawOf_123 post mc ms x0 x1 x3 x4 x6 x7 x8 x9 x10 x11 x12 x13 x14 kc ks := by
  obtain ⟨s0, s1, s2⟩ := hS
  obtain ⟨t0, t1, t2⟩ := hT
  have n1 : ¬ (1 : Int32) = 0 := by decide
  have bad : (x3 < 0 ∨ 32767 < x3) → wL_lawOf_141 post mc ms x0 x1 x3 x4 x6 x7 x8 x9 x10 x11 x12 x13 x14 0 kc ks := fun z =>
    cv_141 hp (fun _ y => ⟨⟨g0, g1⟩, hP, ⟨fun _ => t0 (Or.inl z), fun n => absurd rfl n, fun n => absurd rfl n⟩, ⟨fun _ => s0 z, fun n => absurd rfl n, fun n => absurd rfl n⟩, ⟨o0, o1⟩, ⟨d0, d1⟩⟩) (fun _ n => absurd rfl n)
  refine br_c (fun z => bad (Or.inl z)) (fun f1 => br_c (fun z => bad (Or.inr z)) (fun f2 => ?_))
  have tb : ((1 : Int32) = 0 ∨ x4 < 0 ∨ ¬ x4 ≤ 7) → x9 = (-1000000) := fun z => z.elim (fun e => absurd e n1) (fun w => t0 (Or.inr w))
  exact cv_141 hp (fun n y => ⟨⟨g0, g1⟩, hP, ⟨tb, fun _ z1 z2 _ => t2 f1 f2 z1 z2 (fun t => n ⟨t.1, n1, t.2⟩), fun _ _ _ e => absurd rfl e⟩, ⟨fun e => absurd e n1, fun _ _ => s2 f1 f2 (fun t => n ⟨t.1, n1, t.2⟩), fun _ e => absurd rfl e⟩, ⟨o0, o1⟩, ⟨d0, d1⟩⟩)
    (fun z12 _ hps => ⟨⟨g0, g1⟩, hP, ⟨tb, fun _ _ _ e => absurd e n1, fun _ z1 z2 _ => t1 f1 f2 z1 z2 ⟨z12, hps⟩⟩, ⟨fun e => absurd e n1, fun _ e => absurd e n1, fun _ _ => s1 f1 f2 ⟨z12, hps⟩⟩, ⟨o0, o1⟩, ⟨d0, d1⟩⟩)
end
end
section
theorem cv_lawOf {post : Int32 → St0 → Prop} {p a b f g : Int32} (hp : post 1 ()) : wpL_lawOf post 10 2418 () p a b f g := by
  have n1 : ¬ (1 : Int32) = 0 := by decide
  refine ⟨by omega, by omega, 9, 2408, by omega, by omega, cv_init (by omega) (by omega) (fun b3 => ?_)⟩
  refine cv_add (fun hin k hk ek b3 b4 b6 b7 => ?_) (fun hin => ?_)
  · have e1 : upd (fun _ => 0) 0 p 0 = nI k := by rw [pk_us, ek]
    have h1 : ∀ j, j < 1 → ∃ k, k < 120 ∧ upd (fun _ => 0) 0 p j = nI k := fun j hj => ⟨k, hk, by rw [show j = 0 by omega]; exact e1⟩
    have hok : (¬ (1 : Int32) = 0 ∧ cv_ps p f) ↔ cv_ps (nI k) f := by
      rw [ek]
      exact ⟨fun t => t.2, fun t => ⟨n1, t⟩⟩
    have hgr : cv_gr (nI k) g = cv_gr p g := by rw [ek]
    refine cv_change1 hk e1 (fun hb1 hb2 b6 b7 => ?_) (fun hb => ?_)
    · have e2 : upd (upd (fun _ => 0) 0 a) 0 b 0 = b := pk_us
      have ea : upd (fun _ => 0) 0 a 0 = a := pk_us
      rw [ea]
      refine cv_sumR1 (fun j hj => rfl) hk e1 e2 hok (fun r8 c8 c9 hS => ?_)
      refine cv_tgR1 (fun j hj => rfl) hk e1 hgr hok (fun r9 c8 c9 hT => ?_)
      refine cv_planR 1 rfl (by omega) h1 (fun r10 c5 c6 c7 hP => ?_)
      refine cv_remove1 hk e1 (fun u => ?_)
      obtain ⟨u0, u1, u2, u3, u4, u5, u6, u7, u8, u9⟩ := u
      rw [e2]
      refine br_f hin.1 (br_f hin.2.1 (br_f hin.2.2.1 (br_f hin.2.2.2 (br_f n1 (br_f hb1 (br_f hb2 (br_f n1 ?_)))))))
      exact cv_123 hp hS hT hP (fun z => absurd z n1) (fun _ => rfl) (fun z => absurd z n1) (fun _ => rfl) (fun z => absurd z n1) (fun _ => rfl)
    · have ea : upd (fun _ => 0) 0 a 0 = a := pk_us
      refine cv_sumR1 (fun j hj => rfl) hk e1 ea hok (fun r8 c8 c9 hS => ?_)
      refine cv_tgR1 (fun j hj => rfl) hk e1 hgr hok (fun r9 c8 c9 hT => ?_)
      refine cv_planR 1 rfl (by omega) h1 (fun r10 c5 c6 c7 hP => ?_)
      refine cv_remove1 hk e1 (fun u => ?_)
      obtain ⟨u0, u1, u2, u3, u4, u5, u6, u7, u8, u9⟩ := u
      rw [ea]
      have tl : wL_lawOf_111 post 10 2418 p a b f g 0 (-1000000) r8 r9 r10 a 1 0 (1 + 9) (10 + 2408) := br_t rfl (cv_123 hp hS hT hP (fun z => absurd z n1) (fun _ => rfl) (fun _ => rfl) (fun z => absurd rfl z) (fun z => absurd z n1) (fun _ => rfl))
      refine br_f hin.1 (br_f hin.2.1 (br_f hin.2.2.1 (br_f hin.2.2.2 (br_f n1 ?_))))
      exact br_c (fun _ => tl) (fun z1 => br_c (fun _ => tl) (fun z2 => absurd hb (fun t => t.elim z1 z2)))
  · have hok : ¬ (¬ (0 : Int32) = 0 ∧ cv_ps p f) := fun t => t.1 rfl
    refine cv_change0 ?_
    refine cv_sumR0 (v := a) (fun j hj => rfl) hok (fun r8 c8 c9 hS => ?_)
    refine cv_tgR0 (v := cv_gr p g) (fun j hj => rfl) hok (fun r9 c8 c9 hT => ?_)
    refine cv_planR 0 rfl (by omega) (fun j hj => absurd hj (by omega)) (fun r10 c5 c6 c7 hP => ?_)
    refine cv_remove0 ?_
    have tl : wL_lawOf_86 post 10 2418 p a b f g (-1000000) (-1000000) r8 r9 r10 (-4000000) (1 + 9) (10 + 2408) := br_t rfl (br_t rfl (cv_123 hp hS hT hP (fun _ => rfl) (fun z => absurd rfl z) (fun _ => rfl) (fun z => absurd rfl z) (fun _ => rfl) (fun z => absurd rfl z)))
    exact br_c (fun _ => tl) (fun z1 => br_c (fun _ => tl) (fun z2 => br_c (fun _ => tl) (fun z3 => br_c (fun _ => tl) (fun z4 => absurd ⟨z1, z2, z3, z4⟩ hin))))
theorem cv_cell {post : Int32 → Prop} {L : Nat} {xs : Nat → Int32} {u : St0} (i : Nat) (hi : i < 8) (hL : L ≤ 5) (h : ∀ r, post r) : wpL_cellAt post L xs u (nI i) :=
  pk_le L i (fun _ => h _) (fun z => ⟨pk_in i L z, h _⟩)
theorem i_vc (xs : Nat → Int32) (L : Nat) (hL : L ≤ 5) : wpL_law (fun r => r = 1) L xs := by
  unfold wpL_law
  exact cv_cell 0 (by omega) hL (fun r1 => cv_cell 1 (by omega) hL (fun r2 => cv_cell 2 (by omega) hL (fun r3 => cv_cell 3 (by omega) hL (fun r4 => cv_cell 4 (by omega) hL (fun r5 => ⟨10, 2418, by omega, by omega, cv_lawOf rfl⟩)))))
end
