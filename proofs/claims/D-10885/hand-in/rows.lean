section
/-! ===== pure pictures: what the methods answer ===== -/
/-- unitsOf -/
def sd_u (c : Int32) : Int32 := if c >>> ((6 : Int32) &&& 31) = 0 then c &&& 63 else (64 + (c &&& 63)) <<< (((c >>> ((6 : Int32) &&& 31)) - 1) &&& 31)
/-- borderAbove -/
def sd_b (c : Int32) : Int64 := ((sd_u c + sd_u (c + 1)).toInt64) * 1000000000000
/-- ten to the n -/
def sd_p : Nat → Int64
  | 0 => 1
  | n + 1 => sd_p n * 10
/-- the search's question -/
def sd_up (x : Int64) (m : Int32) : Bool := decide (sd_b m < x) || (decide (x = sd_b m) && decide (m &&& 1 = 1))
/-- the search -/
def sd_n (x : Int64) : Nat → Int32 → Int32 → Int32 → Option Int32
  | 0 => fun _ _ _ => none
  | n + 1 => fun lo hi i => if 11 ≤ i then some lo else if hi ≤ lo then some lo else if sd_up x ((lo + hi) >>> ((1 : Int32) &&& 31)) = true then sd_n x n ((lo + hi) >>> ((1 : Int32) &&& 31) + 1) hi (i + 1) else sd_n x n lo ((lo + hi) >>> ((1 : Int32) &&& 31)) (i + 1)
/-- the law's own s -/
def sd_s1 (k z : Int32) : Int32 := (256 + (64 * z)) + ((k - ((1 : Int32) <<< (z &&& 31))) * ((64 : Int32) >>> (z &&& 31)))
def sd_s (k : Int32) : Int32 := if k ≤ 7 then (if k ≤ 3 then (if k ≤ 1 then sd_s1 k 0 else sd_s1 k 1) else sd_s1 k 2) else sd_s1 k 3

/-! ===== closed tables ===== -/
theorem sd_tU : ∀ j, j < 1024 → ((64 : Int32) ≤ nI j → sd_u (nI j) = (64 + (nI j &&& 63)) <<< ((((nI j >>> ((6 : Int32) &&& 31)) - 1) &&& 31) &&& 31)) ∧ (¬ (64 : Int32) ≤ nI j → sd_u (nI j) = nI j) := by decide +kernel
theorem sd_tV : ∀ j, j < 1024 → (j = 0 → (sd_u (nI j)).toInt64 * 2000000000000 = 0) ∧ (¬ j = 0 → ¬ (sd_u (nI j)).toInt64 * 2000000000000 = 0 ∧ (0 : Int64) ≤ (sd_u (nI j)).toInt64 * 2000000000000) := by decide +kernel
theorem sd_tP : ∀ n, n < 13 → ¬ sd_p n = 0 ∧ (0 : Int64) / sd_p n ≤ 8000 := by decide +kernel
theorem sd_tN : ∀ m : Nat, m < 13 → -(Int32.ofInt (-(m : Int))) = nI m ∧ 12 + Int32.ofInt (-(m : Int)) = nI (12 - m) := by decide +kernel
theorem sd_tK : ∀ j, j < 10 → (nI j).toInt64 * 1 ≤ 8000 ∧ sd_n ((nI j).toInt64 * 1 * 1024 * 1000000000000) 12 0 1023 0 = some (if j = 0 then 0 else sd_s (nI j)) := by decide +kernel
theorem sd_t0 : sd_n 0 12 0 1023 0 = some 0 := by decide +kernel

/-! ===== comparisons ===== -/
theorem sd_c1 (c : Int32) : ¬ c < 1024 ↔ 1023 < c := by
  rw [Int32.lt_iff_toInt_lt, Int32.lt_iff_toInt_lt, show (1024 : Int32).toInt = 1024 by decide, show (1023 : Int32).toInt = 1023 by decide]
  omega
theorem sd_c2 (q : Int32) : ¬ q ≤ 6 ↔ 6 < q := Int32.not_le
theorem sd_c3 (p : Int32) : ¬ p ≤ 5 ↔ 5 < p := Int32.not_le
theorem sd_code {c : Int32} (h1 : ¬ c < 0) (h2 : ¬ 1023 < c) : ∃ j : Nat, j < 1024 ∧ c = nI j := by
  have h3 : c ≤ 1023 := by
    rw [Int32.lt_iff_toInt_lt] at h2
    rw [Int32.le_iff_toInt_le]
    omega
  obtain ⟨j, hj, e⟩ := nI_of2 (M := 1023) (n := 1023) (by decide) h1 h3
  exact ⟨j, by omega, e⟩
theorem sd_neg {q : Int32} (h1 : ¬ q < -12) (h2 : q < 0) : ∃ m : Nat, m < 13 ∧ -q = nI m ∧ 12 + q = nI (12 - m) := by
  rw [Int32.lt_iff_toInt_lt, show (-12 : Int32).toInt = -12 by decide] at h1
  rw [Int32.lt_iff_toInt_lt, show (0 : Int32).toInt = 0 by decide] at h2
  have hm : q.toInt = -(((-q.toInt).toNat : Nat) : Int) := by omega
  have hl : (-q.toInt).toNat < 13 := by omega
  have e : q = Int32.ofInt (-(((-q.toInt).toNat : Nat) : Int)) := by
    rw [← hm, Int32.ofInt_toInt]
  have t := sd_tN _ hl
  rw [← e] at t
  exact ⟨_, hl, t.1, t.2⟩
theorem sd_pos {q : Int32} (h1 : ¬ q < 0) (h2 : ¬ 6 < q) : ∃ m : Nat, m ≤ 6 ∧ q = nI m := by
  have h3 : q ≤ 6 := by
    rw [Int32.lt_iff_toInt_lt] at h2
    rw [Int32.le_iff_toInt_le]
    omega
  exact nI_of2 (M := 6) (n := 6) (by decide) h1 h3

/-! ===== the walks ===== -/
theorem sd_cell {post : Int32 → Prop} {L : Nat} {xs : Nat → Int32} (hL : L ≤ 5) (i : Nat) (hi : i < 5) (h : ∀ r, post r) : wpL_cellAt post L xs () (nI i) := by
  unfold wpL_cellAt
  refine ⟨fun _ => h _, fun z => ⟨?_, h _⟩⟩
  have hl : i < L := by
    rcases Nat.lt_or_ge i L with g | g
    · exact g
    · exact absurd (nI_le g (by omega)) z
  exact vp_in_nI hl (by omega)
theorem sd_badCode {post : Int32 → Prop} (u : St2) (c : Int32) (ha : c < 0 ∨ 1023 < c → post 1) (hb : ¬ c < 0 → ¬ 1023 < c → post 0) : wpX_badCode post u c := by
  obtain ⟨t, a, b, f⟩ := u
  unfold wpX_badCode
  exact ⟨fun z => ha (Or.inl z), fun z => ⟨fun y => hb z (fun w => (sd_c1 c).mpr w y), fun y => ha (Or.inr ((sd_c1 c).mp y))⟩⟩
theorem sd_unitsOf {post : Int32 → Prop} (u : St2) (c : Int32) (h : post (sd_u c)) : wpX_unitsOf post u c := by
  obtain ⟨t, a, b, f⟩ := u
  unfold wpX_unitsOf
  dsimp only
  unfold sd_u at h
  refine nm_e (nm_e ⟨fun z => ?_, fun z => ?_⟩)
  · rw [if_pos z] at h
    exact h
  · rw [if_neg z] at h
    exact h
theorem sd_units {post : Int32 → Prop} (u : St2) (c : Int32) (ha : c < 0 ∨ 1023 < c → post (-1)) (hb : ¬ c < 0 → ¬ 1023 < c → post (sd_u c)) : wpX_units post u c := by
  obtain ⟨t, a, b, f⟩ := u
  unfold wpX_units
  dsimp only
  exact sd_badCode _ c (fun z => br_f (by decide) (ha z)) (fun z y => br_t rfl (sd_unitsOf _ c (hb z y)))
theorem sd_badDec {post : Int32 → Prop} (u : St2) (d q : Int32) (ha : d < 0 ∨ 99999999 < d ∨ q < -12 ∨ 6 < q → post 1) (hb : ¬ d < 0 → ¬ 99999999 < d → ¬ q < -12 → ¬ 6 < q → post 0) : wpX_badDecimal post u d q := by
  obtain ⟨t, a, b, f⟩ := u
  unfold wpX_badDecimal
  exact ⟨fun z => ha (Or.inl z), fun z => ⟨fun y => ha (Or.inr (Or.inl y)), fun y => ⟨fun x => ha (Or.inr (Or.inr (Or.inl x))), fun x => ⟨fun w => hb z y x (fun g => (sd_c2 q).mpr g w), fun w => ha (Or.inr (Or.inr (Or.inr ((sd_c2 q).mp w))))⟩⟩⟩⟩
theorem sd_tl {post : Int64 → Prop} (t a b : Int32) (f : Nat → Int32) (N : Nat) (hN : N < 2 ^ 31) (h : post (sd_p N)) : ∀ k i, i + k = N → wX_tenTo_5 post (nI N) t a b f (k + 1) (sd_p i) (nI i) := by
  intro k
  induction k with
  | zero =>
    intro i e
    have e' : i = N := by omega
    subst e'
    unfold wX_tenTo_5
    exact br_t (nI_le (Nat.le_refl i) hN) h
  | succ k ih =>
    intro i e
    unfold wX_tenTo_5
    exact br_f (nI_ge (by omega) hN) (nm_e (nm_r (nI_1 i) (ih (i + 1) (by omega))))
theorem sd_ten {post : Int64 → Prop} (u : St2) (x : Int32) (n : Nat) (hn : n < 13) (e : x = nI n) (h : post (sd_p n)) : wpX_tenTo post u x := by
  obtain ⟨t, a, b, f⟩ := u
  subst e
  unfold wpX_tenTo
  exact ⟨n + 1, sd_tl t a b f n (by omega) h n 0 (by omega)⟩
theorem sd_stepsOf {post : Int64 → Prop} (u : St2) (d q : Int32) (h1 : ¬ q < -12) (h2 : ¬ 6 < q) (h : ∀ r, (d = 0 → r = 0) → post r) : wpX_stepsOf post u d q := by
  obtain ⟨t, a, b, f⟩ := u
  unfold wpX_stepsOf
  dsimp only
  refine ⟨fun z => ?_, fun z => ?_⟩
  · obtain ⟨m, hm, e1, e2⟩ := sd_neg h1 z
    refine sd_ten _ _ m hm e1 ⟨(sd_tP m hm).1, fun _ => ?_, fun y => ?_⟩
    · refine sd_ten _ _ (12 - m) (by omega) e2 (h _ (fun e => ?_))
      rw [e]
      exact Int64.zero_mul
    · refine h _ (fun e => ?_)
      rw [e] at y
      exact absurd (sd_tP m hm).2 y
  · obtain ⟨m, hm, e1⟩ := sd_pos z h2
    refine sd_ten _ _ m (by omega) e1 (nm_e ⟨fun _ => h _ (fun e => ?_), fun y => h _ (fun e => ?_)⟩)
    · rw [e, show (0 : Int32).toInt64 = 0 by decide, Int64.zero_mul, Int64.zero_mul, Int64.zero_mul]
    · rw [e, show (0 : Int32).toInt64 = 0 by decide, Int64.zero_mul] at y
      exact absurd (by decide) y
theorem sd_stepsK {post : Int64 → Prop} (u : St2) (j : Nat) (hj : j < 10) (h : post ((nI j).toInt64 * 1 * 1024 * 1000000000000)) : wpX_stepsOf post u (nI j) 0 := by
  obtain ⟨t, a, b, f⟩ := u
  unfold wpX_stepsOf
  dsimp only
  exact br_f (by decide) (sd_ten _ _ 0 (by omega) rfl (nm_e (br_t (sd_tK j hj).1 h)))
theorem sd_border {post : Int64 → Prop} (u : St2) (c : Int32) (h : post (sd_b c)) : wpX_borderAbove post u c := by
  obtain ⟨t, a, b, f⟩ := u
  unfold wpX_borderAbove
  dsimp only
  exact sd_unitsOf _ c (sd_unitsOf _ (c + 1) h)
theorem sd_nl {post : Int32 → Prop} (x : Int64) (t a b : Int32) (f : Nat → Int32) (r : Int32) (h : post r) : ∀ n lo hi i, sd_n x n lo hi i = some r → wX_nearest_10 post x t a b f n lo hi i := by
  intro n
  induction n with
  | zero =>
    intro lo hi i e
    exact absurd e (fun w => Option.some_ne_none r w.symm)
  | succ n ih =>
    intro lo hi i e
    unfold sd_n at e
    unfold wX_nearest_10
    refine ⟨fun z => ?_, fun z => ⟨fun y => ?_, fun y => nm_e (sd_border _ _ ?_)⟩⟩
    · rw [if_pos z] at e
      rw [Option.some.inj e]
      exact h
    · rw [if_neg z, if_pos y] at e
      rw [Option.some.inj e]
      exact h
    · rw [if_neg z, if_neg y] at e
      have A : sd_up x ((lo + hi) >>> ((1 : Int32) &&& 31)) = true → wX_nearest_61 post (wX_nearest_10 post x t a b f n) x lo hi i ((lo + hi) >>> ((1 : Int32) &&& 31)) t a b f := by
        intro g
        rw [if_pos g] at e
        unfold wX_nearest_61 wX_nearest_66
        exact br_f (by decide) (nm_e (nm_e (ih _ _ _ e)))
      have B : ¬ sd_up x ((lo + hi) >>> ((1 : Int32) &&& 31)) = true → wX_nearest_65 post (wX_nearest_10 post x t a b f n) x lo hi i ((lo + hi) >>> ((1 : Int32) &&& 31)) t a b f := by
        intro g
        rw [if_neg g] at e
        unfold wX_nearest_65 wX_nearest_66
        exact br_t rfl (nm_e (ih _ _ _ e))
      refine ⟨fun g1 => A ?_, fun g1 => ⟨fun g2 => ⟨fun g3 => A ?_, fun g3 => B ?_⟩, fun g2 => B ?_⟩⟩
      · unfold sd_up
        rw [decide_eq_true g1, Bool.true_or]
      · unfold sd_up
        rw [decide_eq_true g2, decide_eq_true g3, Bool.and_true, Bool.or_true]
      · unfold sd_up
        rw [decide_eq_false g1, decide_eq_false g3, Bool.and_false, Bool.or_false]
        exact Bool.false_ne_true
      · unfold sd_up
        rw [decide_eq_false g1, decide_eq_false g2, Bool.false_and, Bool.or_false]
        exact Bool.false_ne_true
theorem sd_nearest {post : Int32 → Prop} (u : St2) (x : Int64) (r : Int32) (e : sd_n x 12 0 1023 0 = some r) (h : post r) : wpX_nearest post u x := by
  obtain ⟨t, a, b, f⟩ := u
  unfold wpX_nearest
  exact ⟨12, sd_nl x t a b f r h 12 0 1023 0 e⟩
theorem sd_read {post : Int32 → Prop} (u : St2) (q : Int32) (ha : q < -12 ∨ 6 < q → post (-1)) (hb : ¬ q < -12 → ¬ 6 < q → post 0) : wpX_read post u 0 q := by
  obtain ⟨t, a, b, f⟩ := u
  unfold wpX_read
  dsimp only
  refine sd_badDec _ 0 q (fun z => br_f (by decide) (ha ?_)) (fun _ _ z y => br_t rfl (sd_stepsOf _ 0 q z y (fun r hr => ?_)))
  · rcases z with z | z | z
    · exact absurd z (by decide)
    · exact absurd z (by decide)
    · exact z
  · rw [hr rfl]
    exact sd_nearest _ 0 0 sd_t0 (hb z y)
theorem sd_compare {post : Int32 → Prop} (u : St2) (c d q : Int32) (ha : c < 0 ∨ 1023 < c → post 2) (hb : d < 0 ∨ 99999999 < d ∨ q < -12 ∨ 6 < q → post 2)
    (hc : ¬ c < 0 → ¬ 1023 < c → ¬ d < 0 → ¬ 99999999 < d → ¬ q < -12 → ¬ 6 < q → ∀ r, (r = 0 ∨ r = 1 ∨ r = -1) → (d = 0 → (c = 0 → r = 0) ∧ (¬ c = 0 → r = 1)) → post r) : wpX_compare post u c d q := by
  obtain ⟨t, a, b, f⟩ := u
  unfold wpX_compare
  dsimp only
  refine sd_badCode _ c (fun z => br_f (by decide) (ha z)) (fun c1 c2 => br_t rfl (sd_badDec _ d q (fun z => br_f (by decide) (hb z)) (fun d1 d2 q1 q2 => br_t rfl ?_)))
  obtain ⟨j, hj, e⟩ := sd_code c1 c2
  have T := sd_tV j hj
  have H := hc c1 c2 d1 d2 q1 q2
  have Z : c = 0 → j = 0 := by
    intro g
    rw [e] at g
    exact (nI_eq (by omega) (by omega)).mp (g.trans nI_0.symm)
  have Y : j = 0 → c = 0 := by
    intro g
    rw [e, g]
    exact nI_0
  rw [← e] at T
  unfold wpX_steps
  dsimp only
  refine sd_unitsOf _ c (sd_stepsOf _ d q q1 q2 (fun r hr => ⟨fun g => ?_, fun g => ⟨fun g2 => ?_, fun g2 => ?_⟩⟩))
  · refine H 0 (Or.inl rfl) (fun d0 => ⟨fun _ => rfl, fun c0 => ?_⟩)
    rw [hr d0] at g
    exact absurd g (T.2 (fun j0 => c0 (Y j0))).1
  · refine H 1 (Or.inr (Or.inl rfl)) (fun d0 => ⟨fun c0 => ?_, fun _ => rfl⟩)
    rw [hr d0] at g
    exact absurd (T.1 (Z c0)) g
  · refine H (-1) (Or.inr (Or.inr rfl)) (fun d0 => ?_)
    rw [hr d0] at g g2
    refine ⟨fun c0 => absurd (T.1 (Z c0)) g, fun c0 => absurd (T.2 (fun j0 => c0 (Y j0))).2 g2⟩
end
section
/-! ===== typing: one key on an empty text ===== -/
theorem sd_type {post : Int32 → St2 → Prop} (k : Int32) (ha : k < 0 ∨ ¬ k ≤ 10 → post (-1) (0, 0, 0, fun _ => 0)) (hb : k = 10 → post 0 (1, 0, 0, upd (fun _ => 0) 0 k)) (hc : ¬ k < 0 → k ≤ 10 → ¬ k = 10 → post 1 (1, 0, 0, upd (fun _ => 0) 0 k)) : wpX_type post (0, 0, 0, fun _ => 0) k := by
  unfold wpX_type
  dsimp only
  refine ⟨fun z => ha (Or.inl z), fun z => ⟨fun y => ?_, fun y => ha (Or.inr y)⟩⟩
  unfold wpX_digitsTyped
  dsimp only
  refine ⟨1, ?_⟩
  unfold wX_digitsTyped_4
  refine br_t (by decide) (br_t (by decide) ?_)
  unfold wX_type_30
  refine ⟨fun x => br_t rfl ?_, fun x => br_f (by decide) ?_⟩
  · unfold wX_type_53
    exact ⟨vp_in_nI (n := 0) (by decide) (by decide), nm_e (nm_e (br_t x (hb x)))⟩
  · unfold wX_type_53
    exact ⟨vp_in_nI (n := 0) (by decide) (by decide), nm_e (nm_e (br_f x (hc z y x)))⟩
/-- an empty text reads as 0 -/
theorem sd_typed0 {post : Int32 → Prop} (f : Nat → Int32) (h : post 0) : wpX_typed post (0, 0, 0, f) := by
  unfold wpX_typed
  dsimp only
  unfold wpX_textDigits
  dsimp only
  refine ⟨1, ?_⟩
  unfold wX_textDigits_4
  refine br_t (by decide) ?_
  unfold wpX_reading
  dsimp only
  unfold wpX_textScale
  dsimp only
  refine ⟨1, ?_⟩
  unfold wX_textScale_6
  refine br_t (by decide) ?_
  refine sd_stepsOf _ 0 0 (by decide) (by decide) (fun r hr => ?_)
  rw [hr rfl]
  exact sd_nearest _ 0 0 sd_t0 h
/-- a text that is a point alone reads as 0 -/
theorem sd_typedP {post : Int32 → Prop} (f : Nat → Int32) (hf : f 0 = 10) (h : post 0) : wpX_typed post (1, 0, 0, f) := by
  unfold wpX_typed
  dsimp only
  unfold wpX_textDigits
  dsimp only
  refine ⟨2, ?_⟩
  unfold wX_textDigits_4
  refine br_f (by decide) ⟨vp_in_nI (n := 0) (by decide) (by decide), br_t hf (nm_r (e' := 1) (by decide) ?_)⟩
  unfold wX_textDigits_4
  refine br_t (by decide) ?_
  unfold wpX_reading
  dsimp only
  unfold wpX_textScale
  dsimp only
  refine ⟨2, ?_⟩
  unfold wX_textScale_6
  refine br_f (by decide) ⟨vp_in_nI (n := 0) (by decide) (by decide), br_t hf (nm_r (e' := 1) (by decide) ?_)⟩
  unfold wX_textScale_6
  refine br_t (by decide) ?_
  refine sd_stepsOf _ 0 0 (by decide) (by decide) (fun r hr => ?_)
  rw [hr rfl]
  exact sd_nearest _ 0 0 sd_t0 h
/-- a text of one digit -/
theorem sd_typedD {post : Int32 → Prop} (f : Nat → Int32) (j : Nat) (hj : j < 10) (hf : f 0 = nI j) (h : post (if j = 0 then 0 else sd_s (nI j))) : wpX_typed post (1, 0, 0, f) := by
  have h10 : ¬ f (0 : Int32).toNatClampNeg = 10 := by
    intro g
    have g' : nI j = nI 10 := hf.symm.trans g
    have := (nI_eq (by omega) (by omega)).mp g'
    omega
  unfold wpX_typed
  dsimp only
  unfold wpX_textDigits
  dsimp only
  refine ⟨2, ?_⟩
  unfold wX_textDigits_4
  refine br_f (by decide) ⟨vp_in_nI (n := 0) (by decide) (by decide), br_f h10 ⟨vp_in_nI (n := 0) (by decide) (by decide), nm_r (e' := nI j) ?_ (nm_r (e' := 1) (by decide) ?_)⟩⟩
  · show (0 : Int32) * 10 + f 0 = nI j
    rw [hf, Int32.zero_mul, Int32.zero_add]
  unfold wX_textDigits_4
  refine br_t (by decide) ?_
  unfold wpX_reading
  dsimp only
  unfold wpX_textScale
  dsimp only
  refine ⟨2, ?_⟩
  unfold wX_textScale_6
  refine br_f (by decide) ⟨vp_in_nI (n := 0) (by decide) (by decide), br_f h10 (br_t rfl (nm_r (e' := 1) (by decide) ?_))⟩
  unfold wX_textScale_6
  refine br_t (by decide) ?_
  exact sd_stepsK _ j hj (sd_nearest _ _ _ (sd_tK j hj).2 h)
/-- code 0 written with p places -/
theorem sd_written {post : Int32 → Prop} (u : St2) (p : Int32) (ha : p < 0 ∨ 5 < p → post (-1)) (hb : ¬ p < 0 → ¬ 5 < p → post 0) : wpX_written post u 0 p := by
  obtain ⟨t, a, b, f⟩ := u
  unfold wpX_written
  dsimp only
  refine sd_badCode _ 0 (fun z => ?_) (fun _ _ => br_t rfl ⟨fun z => ha (Or.inl z), fun z => ⟨fun y => ?_, fun y => ha (Or.inr ((sd_c3 p).mp y))⟩⟩)
  · rcases z with z | z
    · exact absurd z (by decide)
    · exact absurd z (by decide)
  · have h5 : ¬ 5 < p := fun g => (sd_c3 p).mpr g y
    obtain ⟨m, hm, e⟩ := nI_of2 (M := 5) (n := 5) (by decide) z y
    unfold wpX_writtenWith
    dsimp only
    refine sd_unitsOf _ 0 (sd_ten _ p m (by omega) e (nm_r (e' := 0) ?_ (nm_r (e' := 0) (by decide) (nm_r (e' := 0) (by decide) (br_f (by decide) (br_f (by decide) ?_))))))
    · rw [show (sd_u 0).toInt64 = 0 by decide, Int64.zero_mul]
    · unfold wX_writtenWith_57 wX_writtenWith_58
      exact br_t rfl (hb z h5)
/-- the law's own s -/
theorem sd_wpS {post : Int32 → Prop} (k : Int32) (h : post (sd_s k)) : wpL_s post () k := by
  unfold sd_s at h
  unfold wpL_s
  refine ⟨fun z => ⟨fun y => ⟨fun x => ?_, fun x => ?_⟩, fun y => ?_⟩, fun z => ?_⟩
  · rw [if_pos z, if_pos y, if_pos x] at h
    exact h
  · rw [if_pos z, if_pos y, if_neg x] at h
    exact h
  · rw [if_pos z, if_neg y] at h
    exact h
  · rw [if_neg z] at h
    exact h
end
section
/-! ===== the law's last line, from its end ===== -/
section
variable {post : Int32 → St0 → Prop} {mc ms kc ks : Nat} {c d q k p un re co ty va wr : Int32}
theorem sd_289 (hp : post 1 ()) (w1 : p < 0 ∨ 5 < p → wr = -1) (w2 : ¬ p < 0 → ¬ 5 < p → wr = 0) : wL_lawOf_289 post mc ms p wr kc ks := by
  unfold wL_lawOf_289 wL_lawOf_306 wL_lawOf_307
  exact ⟨fun z => br_t (w1 (Or.inl z)) hp, fun z => ⟨fun y => br_t (w1 (Or.inr y)) hp, fun y => br_t (w2 z y) hp⟩⟩
theorem sd_268 {x16 z0 : Int32} (H : wL_lawOf_289 post mc ms p wr kc ks) (e : ty = z0) (v : ¬ x16 = 0 → ¬ k = 0 → va = sd_s k) : wL_lawOf_268 post mc ms k p va wr x16 z0 ty kc ks := by
  unfold wL_lawOf_268
  exact br_t e ⟨fun _ => H, fun z => ⟨fun _ => H, fun y => sd_wpS k (br_t (v z y) H)⟩⟩
theorem sd_246 {x16 : Int32} (H : wL_lawOf_289 post mc ms p wr kc ks) (k0 : x16 = 0 → (k = 10 → ty = 0) ∧ (¬ k = 10 → ty = -1)) (k1 : ¬ x16 = 0 → ty = 1 ∧ (¬ k = 0 → va = sd_s k)) : wL_lawOf_246 post mc ms k p ty va wr x16 kc ks := by
  unfold wL_lawOf_246
  exact ⟨fun z => ⟨fun y => sd_268 H ((k0 z).1 y) (fun g => (k1 g).2), fun y => sd_268 H ((k0 z).2 y) (fun g => (k1 g).2)⟩, fun z => sd_268 H (k1 z).1 (fun g => (k1 g).2)⟩
theorem sd_194 {x12 x14 x16 z0 : Int32} (H : wL_lawOf_246 post mc ms k p ty va wr x16 kc ks) (e : re = z0) (b : x12 = 0 ∨ x14 = 0 → co = 2)
    (g : ¬ x12 = 0 → ¬ x14 = 0 → ¬ co < -1 ∧ ¬ 1 < co ∧ (¬ 0 < d → (c ≤ 0 → co = 0) ∧ (¬ c ≤ 0 → co = 1))) : wL_lawOf_194 post mc ms c d k p co ty va wr x12 x14 x16 z0 re kc ks := by
  unfold wL_lawOf_194
  refine br_t e ⟨fun z => ?_, fun z => ⟨fun y => ?_, fun y => br_f (g z y).1 (br_f (g z y).2.1 ⟨fun _ => H, fun x => ⟨fun w => ?_, fun w => ?_⟩⟩)⟩⟩
  · unfold wL_lawOf_240
    exact br_t (b (Or.inl z)) H
  · unfold wL_lawOf_240
    exact br_t (b (Or.inr y)) H
  · unfold wL_lawOf_234
    exact br_t (((g z y).2.2 x).1 w) H
  · unfold wL_lawOf_234
    exact br_t (((g z y).2.2 x).2 w) H
theorem sd_173 {x12 x13 x14 x15 z0 : Int32} (H : wL_lawOf_246 post mc ms k p ty va wr z0 kc ks) (eu : un = x15) (r0 : x13 = 0 → re = -1) (r1 : ¬ x13 = 0 → re = 0) (b : x12 = 0 ∨ x14 = 0 → co = 2)
    (g : ¬ x12 = 0 → ¬ x14 = 0 → ¬ co < -1 ∧ ¬ 1 < co ∧ (¬ 0 < d → (c ≤ 0 → co = 0) ∧ (¬ c ≤ 0 → co = 1))) : wL_lawOf_173 post mc ms c d k p un re co ty va wr x12 x13 x14 x15 z0 kc ks := by
  unfold wL_lawOf_173
  exact br_t eu ⟨fun z => sd_194 H (r0 z) b g, fun z => sd_194 H (r1 z) b g⟩
theorem sd_156 {x12 x13 x14 z0 : Int32} (H0 : k < 0 ∨ 9 < k → wL_lawOf_246 post mc ms k p ty va wr 0 kc ks) (H1 : ¬ k < 0 → ¬ 9 < k → wL_lawOf_246 post mc ms k p ty va wr 1 kc ks) (eu : un = z0) (r0 : x13 = 0 → re = -1) (r1 : ¬ x13 = 0 → re = 0) (b : x12 = 0 ∨ x14 = 0 → co = 2)
    (g : ¬ x12 = 0 → ¬ x14 = 0 → ¬ co < -1 ∧ ¬ 1 < co ∧ (¬ 0 < d → (c ≤ 0 → co = 0) ∧ (¬ c ≤ 0 → co = 1))) : wL_lawOf_156 post mc ms c d k p un re co ty va wr x12 x13 x14 z0 kc ks := by
  unfold wL_lawOf_156 wL_lawOf_172
  exact ⟨fun z => sd_173 (H0 (Or.inl z)) eu r0 r1 b g, fun z => ⟨fun y => sd_173 (H0 (Or.inr y)) eu r0 r1 b g, fun y => sd_173 (H1 z y) eu r0 r1 b g⟩⟩
theorem sd_118 {x12 x13 z0 : Int32} (H0 : k < 0 ∨ 9 < k → wL_lawOf_246 post mc ms k p ty va wr 0 kc ks) (H1 : ¬ k < 0 → ¬ 9 < k → wL_lawOf_246 post mc ms k p ty va wr 1 kc ks)
    (u0 : x12 = 0 → un = -1) (u1 : ¬ x12 = 0 → 64 ≤ c → un = (64 + (c &&& 63)) <<< ((((c >>> ((6 : Int32) &&& 31)) - 1) &&& 31) &&& 31)) (u2 : ¬ x12 = 0 → ¬ 64 ≤ c → un = c)
    (r0 : x13 = 0 → re = -1) (r1 : ¬ x13 = 0 → re = 0) (b : x12 = 0 ∨ z0 = 0 → co = 2)
    (g : ¬ x12 = 0 → ¬ z0 = 0 → ¬ co < -1 ∧ ¬ 1 < co ∧ (¬ 0 < d → (c ≤ 0 → co = 0) ∧ (¬ c ≤ 0 → co = 1))) : wL_lawOf_118 post mc ms c d k p un re co ty va wr x12 x13 z0 kc ks := by
  unfold wL_lawOf_118
  exact ⟨fun z => sd_156 H0 H1 (u0 z) r0 r1 b g, fun z => ⟨fun y => sd_156 H0 H1 (u1 z y) r0 r1 b g, fun y => sd_156 H0 H1 (u2 z y) r0 r1 b g⟩⟩
theorem sd_96 {x12 z0 : Int32} (H0 : k < 0 ∨ 9 < k → wL_lawOf_246 post mc ms k p ty va wr 0 kc ks) (H1 : ¬ k < 0 → ¬ 9 < k → wL_lawOf_246 post mc ms k p ty va wr 1 kc ks)
    (u0 : x12 = 0 → un = -1) (u1 : ¬ x12 = 0 → 64 ≤ c → un = (64 + (c &&& 63)) <<< ((((c >>> ((6 : Int32) &&& 31)) - 1) &&& 31) &&& 31)) (u2 : ¬ x12 = 0 → ¬ 64 ≤ c → un = c)
    (r0 : z0 = 0 → re = -1) (r1 : ¬ z0 = 0 → re = 0) (b : x12 = 0 ∨ z0 = 0 ∨ d < 0 ∨ 99999999 < d → co = 2)
    (g : ¬ x12 = 0 → ¬ z0 = 0 → ¬ d < 0 → ¬ 99999999 < d → ¬ co < -1 ∧ ¬ 1 < co ∧ (¬ 0 < d → (c ≤ 0 → co = 0) ∧ (¬ c ≤ 0 → co = 1))) : wL_lawOf_96 post mc ms c d k p un re co ty va wr x12 z0 kc ks := by
  unfold wL_lawOf_96 wL_lawOf_117
  refine ⟨fun z => ?_, fun z => ⟨fun y => ?_, fun y => ⟨fun x => ?_, fun x => ?_⟩⟩⟩
  · exact sd_118 H0 H1 u0 u1 u2 r0 r1 (fun _ => b (Or.inr (Or.inl z))) (fun _ n => absurd rfl n)
  · exact sd_118 H0 H1 u0 u1 u2 r0 r1 (fun _ => b (Or.inr (Or.inr (Or.inl y)))) (fun _ n => absurd rfl n)
  · exact sd_118 H0 H1 u0 u1 u2 r0 r1 (fun _ => b (Or.inr (Or.inr (Or.inr x)))) (fun _ n => absurd rfl n)
  · refine sd_118 H0 H1 u0 u1 u2 r0 r1 (fun t => ?_) (fun n _ => g n z y x)
    rcases t with t | t
    · exact b (Or.inl t)
    · exact absurd t (by decide)
theorem sd_77 {z0 : Int32} (H0 : k < 0 ∨ 9 < k → wL_lawOf_246 post mc ms k p ty va wr 0 kc ks) (H1 : ¬ k < 0 → ¬ 9 < k → wL_lawOf_246 post mc ms k p ty va wr 1 kc ks)
    (u0 : z0 = 0 → un = -1) (u1 : ¬ z0 = 0 → 64 ≤ c → un = (64 + (c &&& 63)) <<< ((((c >>> ((6 : Int32) &&& 31)) - 1) &&& 31) &&& 31)) (u2 : ¬ z0 = 0 → ¬ 64 ≤ c → un = c)
    (r0 : q < -12 ∨ 6 < q → re = -1) (r1 : ¬ q < -12 → ¬ 6 < q → re = 0) (b0 : z0 = 0 → co = 2) (b : d < 0 ∨ 99999999 < d ∨ q < -12 ∨ 6 < q → co = 2)
    (g : ¬ z0 = 0 → ¬ d < 0 → ¬ 99999999 < d → ¬ q < -12 → ¬ 6 < q → ¬ co < -1 ∧ ¬ 1 < co ∧ (¬ 0 < d → (c ≤ 0 → co = 0) ∧ (¬ c ≤ 0 → co = 1))) : wL_lawOf_77 post mc ms c d q k p un re co ty va wr z0 kc ks := by
  unfold wL_lawOf_77 wL_lawOf_95
  refine ⟨fun z => ?_, fun z => ⟨fun y => ?_, fun y => ?_⟩⟩
  · exact sd_96 H0 H1 u0 u1 u2 (fun _ => r0 (Or.inl z)) (fun n => absurd rfl n) (fun _ => b (Or.inr (Or.inr (Or.inl z)))) (fun _ n => absurd rfl n)
  · exact sd_96 H0 H1 u0 u1 u2 (fun _ => r0 (Or.inr y)) (fun n => absurd rfl n) (fun _ => b (Or.inr (Or.inr (Or.inr y)))) (fun _ n => absurd rfl n)
  · refine sd_96 H0 H1 u0 u1 u2 (fun n => absurd n (by decide)) (fun _ => r1 z y) (fun t => ?_) (fun n _ d1 d2 => g n d1 d2 z y)
    rcases t with t | t | t | t
    · exact b0 t
    · exact absurd t (by decide)
    · exact b (Or.inl t)
    · exact b (Or.inr (Or.inl t))
/-- the whole last line, its answers known -/
theorem sd_last (hp : post 1 ())
    (U0 : c < 0 ∨ 1023 < c → un = -1) (U1 : ¬ c < 0 → ¬ 1023 < c → un = sd_u c)
    (R0 : q < -12 ∨ 6 < q → re = -1) (R1 : ¬ q < -12 → ¬ 6 < q → re = 0)
    (C0 : c < 0 ∨ 1023 < c → co = 2) (C1 : d < 0 ∨ 99999999 < d ∨ q < -12 ∨ 6 < q → co = 2)
    (C2 : ¬ c < 0 → ¬ 1023 < c → ¬ d < 0 → ¬ 99999999 < d → ¬ q < -12 → ¬ 6 < q → (co = 0 ∨ co = 1 ∨ co = -1) ∧ (d = 0 → (c = 0 → co = 0) ∧ (¬ c = 0 → co = 1)))
    (K0 : k < 0 ∨ ¬ k ≤ 10 → ty = -1) (K1 : k = 10 → ty = 0) (K2 : ¬ k < 0 → k ≤ 10 → ¬ k = 10 → ty = 1 ∧ (¬ k = 0 → va = sd_s k))
    (W0 : p < 0 ∨ 5 < p → wr = -1) (W1 : ¬ p < 0 → ¬ 5 < p → wr = 0) :
    ((c < 0 → (wL_lawOf_76 post mc ms c d q k p un re co ty va wr kc ks)) ∧ (¬ c < 0 → (((1023 < c → (wL_lawOf_76 post mc ms c d q k p un re co ty va wr kc ks)) ∧ (¬ 1023 < c → (wL_lawOf_77 post mc ms c d q k p un re co ty va wr 1 kc ks)))))) := by
  have H : wL_lawOf_289 post mc ms p wr kc ks := sd_289 hp W0 W1
  have i10 : (10 : Int32).toInt = 10 := by decide
  have i9 : (9 : Int32).toInt = 9 := by decide
  have i0 : (0 : Int32).toInt = 0 := by decide
  have H0 : k < 0 ∨ 9 < k → wL_lawOf_246 post mc ms k p ty va wr 0 kc ks := by
    intro z
    refine sd_246 H (fun _ => ⟨K1, fun n => K0 ?_⟩) (fun n => absurd rfl n)
    rcases z with z | z
    · exact Or.inl z
    · refine Or.inr (fun y => n (Int32.toInt_inj.mp ?_))
      rw [Int32.lt_iff_toInt_lt, i9] at z
      rw [Int32.le_iff_toInt_le, i10] at y
      rw [i10]
      omega
  have H1 : ¬ k < 0 → ¬ 9 < k → wL_lawOf_246 post mc ms k p ty va wr 1 kc ks := by
    intro z y
    refine sd_246 H (fun n => absurd n (by decide)) (fun _ => K2 z ?_ ?_)
    · rw [Int32.lt_iff_toInt_lt, i9] at y
      rw [Int32.le_iff_toInt_le, i10]
      omega
    · intro e
      rw [e] at y
      exact absurd (by decide) y
  have B : c < 0 ∨ 1023 < c → wL_lawOf_76 post mc ms c d q k p un re co ty va wr kc ks := by
    intro z
    unfold wL_lawOf_76
    exact sd_77 H0 H1 (fun _ => U0 z) (fun n => absurd rfl n) (fun n => absurd rfl n) R0 R1 (fun _ => C0 z) C1 (fun n => absurd rfl n)
  refine ⟨fun z => B (Or.inl z), fun z => ⟨fun y => B (Or.inr y), fun y => ?_⟩⟩
  obtain ⟨j, hj, e⟩ := sd_code z y
  have T := sd_tU j hj
  rw [← e] at T
  refine sd_77 H0 H1 (fun n => absurd n (by decide)) (fun _ g => (U1 z y).trans (T.1 g)) (fun _ g => (U1 z y).trans (T.2 g)) R0 R1 (fun n => absurd n (by decide)) C1 (fun _ d1 d2 q1 q2 => ?_)
  obtain ⟨s1, s2⟩ := C2 z y d1 d2 q1 q2
  refine ⟨?_, ?_, fun d3 => ?_⟩
  · rcases s1 with s | s | s
    · rw [s]; decide
    · rw [s]; decide
    · rw [s]; decide
  · rcases s1 with s | s | s
    · rw [s]; decide
    · rw [s]; decide
    · rw [s]; decide
  · have d0 : d = 0 := by
      rw [Int32.lt_iff_toInt_lt, i0] at d1 d3
      refine Int32.toInt_inj.mp ?_
      rw [i0]
      omega
    refine ⟨fun c1 => (s2 d0).1 ?_, fun c1 => (s2 d0).2 (fun c0 => c1 ?_)⟩
    · rw [Int32.lt_iff_toInt_lt, i0] at z
      rw [Int32.le_iff_toInt_le, i0] at c1
      refine Int32.toInt_inj.mp ?_
      rw [i0]
      omega
    · rw [c0]
      decide
end
end
section
theorem sd_no {a b C : Prop} (z : a ∨ b) (g1 : ¬ a) (g2 : ¬ b) : C := z.elim (fun w => absurd w g1) (fun w => absurd w g2)
theorem sd_unitsA {post : Int32 → Prop} (u : St2) (c : Int32) (h : ∀ r, (c < 0 ∨ 1023 < c → r = -1) → (¬ c < 0 → ¬ 1023 < c → r = sd_u c) → post r) : wpX_units post u c :=
  sd_units u c (fun z => h _ (fun _ => rfl) (fun g1 g2 => sd_no z g1 g2)) (fun g1 g2 => h _ (fun z => sd_no z g1 g2) (fun _ _ => rfl))
theorem sd_readA {post : Int32 → Prop} (u : St2) (q : Int32) (h : ∀ r, (q < -12 ∨ 6 < q → r = -1) → (¬ q < -12 → ¬ 6 < q → r = 0) → post r) : wpX_read post u 0 q :=
  sd_read u q (fun z => h _ (fun _ => rfl) (fun g1 g2 => sd_no z g1 g2)) (fun g1 g2 => h _ (fun z => sd_no z g1 g2) (fun _ _ => rfl))
theorem sd_writtenA {post : Int32 → Prop} (u : St2) (p : Int32) (h : ∀ r, (p < 0 ∨ 5 < p → r = -1) → (¬ p < 0 → ¬ 5 < p → r = 0) → post r) : wpX_written post u 0 p :=
  sd_written u p (fun z => h _ (fun _ => rfl) (fun g1 g2 => sd_no z g1 g2)) (fun g1 g2 => h _ (fun z => sd_no z g1 g2) (fun _ _ => rfl))
theorem sd_compareA {post : Int32 → Prop} (u : St2) (c d q : Int32) (h : ∀ r, (c < 0 ∨ 1023 < c → r = 2) → (d < 0 ∨ 99999999 < d ∨ q < -12 ∨ 6 < q → r = 2) →
    (¬ c < 0 → ¬ 1023 < c → ¬ d < 0 → ¬ 99999999 < d → ¬ q < -12 → ¬ 6 < q → (r = 0 ∨ r = 1 ∨ r = -1) ∧ (d = 0 → (c = 0 → r = 0) ∧ (¬ c = 0 → r = 1))) → post r) : wpX_compare post u c d q :=
  sd_compare u c d q (fun z => h 2 (fun _ => rfl) (fun _ => rfl) (fun g1 g2 _ _ _ _ => sd_no z g1 g2)) (fun z => h 2 (fun _ => rfl) (fun _ => rfl) (fun _ _ d1 d2 q1 q2 => sd_no z d1 (fun y => sd_no y d2 (fun x => sd_no x q1 q2))))
    (fun c1 c2 d1 d2 q1 q2 r a b => h r (fun z => sd_no z c1 c2) (fun z => sd_no z d1 (fun y => sd_no y d2 (fun x => sd_no x q1 q2))) (fun _ _ _ _ _ _ => ⟨a, b⟩))
theorem sd_lawOf (c d q k p : Int32) : wpL_lawOf (fun r _ => r = 1) 12 176 () c d q k p := by
  unfold wpL_lawOf
  refine ⟨by decide, by decide, 1, 9, by decide, by decide, ?_⟩
  unfold wpX_init
  refine ⟨by decide, by decide, ?_⟩
  dsimp only
  refine sd_unitsA _ c (fun un U0 U1 => sd_readA _ q (fun re R0 R1 => sd_compareA _ c d q (fun co C0 C1 C2 => sd_type k (fun z => ?_) (fun z => ?_) (fun z y x => ?_))))
  · refine sd_typed0 _ (sd_writtenA _ p (fun wr W0 W1 => sd_last rfl U0 U1 R0 R1 C0 C1 C2 (fun _ => rfl) (fun e => ?_) (fun k1 k2 _ => sd_no z k1 (fun n => n k2)) W0 W1))
    rw [e] at z
    exact absurd z (by decide)
  · refine sd_typedP _ z (sd_writtenA _ p (fun wr W0 W1 => sd_last rfl U0 U1 R0 R1 C0 C1 C2 (fun e => ?_) (fun _ => rfl) (fun _ _ n => absurd z n) W0 W1))
    rw [z] at e
    exact absurd e (by decide)
  · obtain ⟨j, hj, e⟩ := nI_of2 (M := 10) (n := 10) (by decide) z y
    have hj' : j < 10 := by
      rcases Nat.lt_or_ge j 10 with g | g
      · exact g
      · refine absurd ?_ x
        rw [e, show j = 10 by omega]
        rfl
    refine sd_typedD _ j hj' e (sd_writtenA _ p (fun wr W0 W1 => sd_last rfl U0 U1 R0 R1 C0 C1 C2 (fun n => sd_no n z (fun m => m y)) (fun n => absurd n x) (fun _ _ _ => ⟨rfl, fun n => ?_⟩) W0 W1))
    rw [if_neg (fun g => n (by rw [e, g]; rfl)), e]
theorem i_vc (xs : Nat → Int32) (L : Nat) (hL : L ≤ 5) : wpL_law (fun r => r = 1) L xs := by
  unfold wpL_law
  exact sd_cell hL 0 (by decide) (fun c => sd_cell hL 1 (by decide) (fun d => sd_cell hL 2 (by decide) (fun q => sd_cell hL 3 (by decide) (fun k => sd_cell hL 4 (by decide) (fun p => ⟨12, 176, by decide, by decide, sd_lawOf c d q k p⟩)))))
end
