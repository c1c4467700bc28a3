/-! PLAIN LAW 1: small numbers in Int32 -/
def jI (n : Nat) : Int32 := Int32.ofNat n
theorem jI_toInt {a : Nat} (h : a < 2147483648) : (jI a).toInt = a := Int32.toInt_ofNat_of_lt h
theorem jI_nat {a : Nat} (h : a < 2147483648) : (jI a).toNatClampNeg = a := by
  rw [← Int32.toNat_toInt, jI_toInt h]; rfl
theorem jI_add (a b : Nat) : jI a + jI b = jI (a + b) := (Int32.ofNat_add a b).symm
theorem jI_mul (a b : Nat) : jI a * jI b = jI (a * b) := (Int32.ofNat_mul a b).symm
theorem jI_sub {a b : Nat} (h : b ≤ a) : jI a - jI b = jI (a - b) := (Int32.ofNat_sub a b h).symm
theorem jI_lt {a b : Nat} (ha : a < 2147483648) (hb : b < 2147483648) : (jI a < jI b) = (a < b) := by
  rw [Int32.lt_iff_toInt_lt, jI_toInt ha, jI_toInt hb]; exact propext ⟨fun h => by omega, fun h => by omega⟩
theorem jI_le {a b : Nat} (ha : a < 2147483648) (hb : b < 2147483648) : (jI a ≤ jI b) = (a ≤ b) := by
  rw [Int32.le_iff_toInt_le, jI_toInt ha, jI_toInt hb]; exact propext ⟨fun h => by omega, fun h => by omega⟩
theorem jI_eq {a b : Nat} (ha : a < 2147483648) (hb : b < 2147483648) : (jI a = jI b) = (a = b) := by
  apply propext; constructor
  · intro h; have := congrArg Int32.toInt h; rw [jI_toInt ha, jI_toInt hb] at this; omega
  · intro h; rw [h]
theorem jI_div {a b : Nat} (ha : a < 2147483648) (hb : b < 2147483648) : jI a / jI b = jI (a / b) := by
  apply Int32.toInt_inj.mp
  have hd : a / b ≤ a := Nat.div_le_self a b
  rw [Int32.toInt_div, jI_toInt ha, jI_toInt hb, jI_toInt (by omega)]
  rw [← Int.ofNat_tdiv]
  have h1 : ((a / b : Nat) : Int) < 2147483648 := by omega
  have h0 : (0 : Int) ≤ ((a / b : Nat) : Int) := Int.natCast_nonneg _
  generalize ((a / b : Nat) : Int) = z at h1 h0
  rw [Int.bmod_eq_of_le] <;> omega
theorem jI_rem {a b : Nat} (ha : a < 2147483648) (hb : b < 2147483648) : jrem (jI a) (jI b) = jI (a % b) := by
  unfold jrem
  rw [jI_div ha hb, jI_mul, jI_sub (Nat.div_mul_le_self a b)]
  congr 1
  have := Nat.div_add_mod a b
  rw [Nat.mul_comm] at this
  omega
theorem jI_0 : (0 : Int32) = jI 0 := rfl
theorem jI_neg {a : Nat} (h : a < 2147483648) : (jI a < 0) = False := by
  rw [jI_0, jI_lt h (by omega)]; simp
/-- whether an Int32 lies in a range -/
def inR (p : Int32) (a b : Int) : Prop := a ≤ p.toInt ∧ p.toInt ≤ b
theorem inR_nat {p : Int32} {b : Int} (h : inR p 0 b) : ∃ i : Nat, p = jI i ∧ (i : Int) ≤ b ∧ i < 2147483648 := by
  obtain ⟨h0, h1⟩ := h
  have h2 : p.toInt < 2147483648 := Int32.toInt_lt p
  refine ⟨p.toInt.toNat, ?_, by omega, by omega⟩
  apply Int32.toInt_inj.mp
  rw [jI_toInt (by omega)]
  omega
theorem grd_lt {i L : Nat} (hi : i < L) (hL : L < 2147483648) {α : Type} {x : Option α} : grd (¬ (jI i < 0 ∨ L ≤ (jI i).toNatClampNeg)) x = x := by
  apply grd_pos
  rw [jI_neg (by omega), jI_nat (by omega), false_or]
  omega
theorem grd_le {i L : Nat} (hi : i < L) {α : Type} {x : Option α} : grd (¬ (L ≤ i)) x = x := grd_pos (by omega)
theorem i32_ne {a b : Int32} (h : (a == b) = false) : (a = b) = False := by
  apply propext; constructor
  · intro e; rw [e] at h; simp at h
  · intro e; exact e.elim
theorem one_eq_zero : ((1 : Int32) = 0) = False := i32_ne (by decide)
theorem zero_eq_one : ((0 : Int32) = 1) = False := i32_ne (by decide)
theorem grd01 {r : Int32} {α : Type} {x : Option α} (h : r = 0 ∨ r = 1) : grd (r = 0 ∨ r = 1) x = x := grd_pos h
theorem one_lt_zero : ((1 : Int32) < 0) = False := by
  apply propext; constructor
  · intro e; exact absurd e (by decide)
  · intro e; exact e.elim
theorem in0_ge (p q : Int64) : (jcmp p q < (0 : Int32)) = (p.toInt < q.toInt) := by
  unfold jcmp lg_cmp
  simp only [gt_iff_lt, Int64.lt_iff_toInt_lt, ← Int64.toInt_inj]
  apply propext
  split
  · constructor
    · intro h; exact absurd h (by decide)
    · intro h; omega
  · split
    · constructor
      · intro h; exact absurd h (by decide)
      · intro h; omega
    · constructor
      · intro h; omega
      · intro h; decide
theorem in0_le (p q : Int64) : ((0 : Int32) < jcmp p q) = (q.toInt < p.toInt) := by
  unfold jcmp lg_cmp
  simp only [gt_iff_lt, Int64.lt_iff_toInt_lt, ← Int64.toInt_inj]
  apply propext
  split
  · constructor
    · intro h; omega
    · intro h; decide
  · split
    · constructor
      · intro h; exact absurd h (by decide)
      · intro h; omega
    · constructor
      · intro h; exact absurd h (by decide)
      · intro h; omega
theorem in0_t (N : Nat) {p : Int32} {lo hi : Int64} {a b : Int} (hlo : lo.toInt = a) (hhi : hi.toInt = b) (h : inR p a b) : fX0_in N p.toInt64 lo hi = some 1 := by
  unfold fX0_in
  obtain ⟨h0, h1⟩ := h
  have e : p.toInt64.toInt = p.toInt := Int32.toInt_toInt64 p
  simp only [in0_ge, in0_le, e, hlo, hhi]
  rw [if_neg (by omega), if_neg (by omega)]
theorem in0_f (N : Nat) {p : Int32} {lo hi : Int64} {a b : Int} (hlo : lo.toInt = a) (hhi : hi.toInt = b) (h : ¬ inR p a b) : fX0_in N p.toInt64 lo hi = some 0 := by
  unfold fX0_in
  unfold inR at h
  have e : p.toInt64.toInt = p.toInt := Int32.toInt_toInt64 p
  simp only [in0_ge, in0_le, e, hlo, hhi]
  split
  · rfl
  · rw [if_pos (by omega)]
theorem in5_t (N : Nat) {p lo hi : Int32} {a b : Int} (hlo : lo.toInt = a) (hhi : hi.toInt = b) (h : inR p a b) : fX5_in N p lo hi = some 1 := by
  unfold fX5_in
  obtain ⟨h0, h1⟩ := h
  simp only [Int32.lt_iff_toInt_lt, hlo, hhi]
  rw [if_neg (by omega), if_neg (by omega)]
theorem in5_f (N : Nat) {p lo hi : Int32} {a b : Int} (hlo : lo.toInt = a) (hhi : hi.toInt = b) (h : ¬ inR p a b) : fX5_in N p lo hi = some 0 := by
  unfold fX5_in
  unfold inR at h
  simp only [Int32.lt_iff_toInt_lt, hlo, hhi]
  split
  · rfl
  · rw [if_pos (by omega)]
theorem jI_m1 {n : Nat} (h : n < 1000) : (jI n - (1 : Int32)).toInt = (n : Int) - 1 := by
  rw [Int32.toInt_sub, jI_toInt (by omega)]
  have e : (1 : Int32).toInt = 1 := by decide
  rw [e, Int.bmod_eq_of_le] <;> omega
theorem jI_m1L {n : Nat} (h : n < 1000) : (jI n - (1 : Int32)).toInt64.toInt = (n : Int) - 1 := by
  rw [Int32.toInt_toInt64, jI_m1 h]
theorem inR_jI {i : Nat} {a b : Int} (h : i < 2147483648) (h0 : a ≤ i) (h1 : (i : Int) ≤ b) : inR (jI i) a b := by
  unfold inR; rw [jI_toInt h]; exact ⟨h0, h1⟩
theorem cj_0 : (0 : Int32) = jI 0 := rfl
theorem cj_1 : (1 : Int32) = jI 1 := rfl
theorem cj_2 : (2 : Int32) = jI 2 := rfl
theorem cj_3 : (3 : Int32) = jI 3 := rfl
theorem cj_4 : (4 : Int32) = jI 4 := rfl
theorem cj_5 : (5 : Int32) = jI 5 := rfl
theorem cj_6 : (6 : Int32) = jI 6 := rfl
theorem cj_7 : (7 : Int32) = jI 7 := rfl
theorem cj_8 : (8 : Int32) = jI 8 := rfl
theorem cj_9 : (9 : Int32) = jI 9 := rfl
theorem cj_10 : (10 : Int32) = jI 10 := rfl
theorem cj_11 : (11 : Int32) = jI 11 := rfl
theorem cj_12 : (12 : Int32) = jI 12 := rfl
theorem cj_13 : (13 : Int32) = jI 13 := rfl
theorem cj_14 : (14 : Int32) = jI 14 := rfl
theorem cj_15 : (15 : Int32) = jI 15 := rfl
theorem cj_16 : (16 : Int32) = jI 16 := rfl
theorem cj_19 : (19 : Int32) = jI 19 := rfl
theorem cj_20 : (20 : Int32) = jI 20 := rfl
theorem cj_23 : (23 : Int32) = jI 23 := rfl
theorem cj_24 : (24 : Int32) = jI 24 := rfl
theorem cj_26 : (26 : Int32) = jI 26 := rfl
theorem cj_27 : (27 : Int32) = jI 27 := rfl
theorem cj_28 : (28 : Int32) = jI 28 := rfl
theorem cj_30 : (30 : Int32) = jI 30 := rfl
theorem cj_31 : (31 : Int32) = jI 31 := rfl
theorem cj_32 : (32 : Int32) = jI 32 := rfl
theorem cj_35 : (35 : Int32) = jI 35 := rfl
theorem cj_36 : (36 : Int32) = jI 36 := rfl
theorem cj_37 : (37 : Int32) = jI 37 := rfl
theorem cj_48 : (48 : Int32) = jI 48 := rfl
theorem cj_49 : (49 : Int32) = jI 49 := rfl
theorem cj_50 : (50 : Int32) = jI 50 := rfl
theorem cj_51 : (51 : Int32) = jI 51 := rfl
theorem cj_52 : (52 : Int32) = jI 52 := rfl
theorem cj_57 : (57 : Int32) = jI 57 := rfl
theorem cj_59 : (59 : Int32) = jI 59 := rfl
theorem cj_60 : (60 : Int32) = jI 60 := rfl
theorem cj_61 : (61 : Int32) = jI 61 := rfl
theorem cj_73 : (73 : Int32) = jI 73 := rfl
theorem cj_74 : (74 : Int32) = jI 74 := rfl
theorem cj_75 : (75 : Int32) = jI 75 := rfl
theorem cj_76 : (76 : Int32) = jI 76 := rfl
theorem cj_77 : (77 : Int32) = jI 77 := rfl
theorem cj_90 : (90 : Int32) = jI 90 := rfl
theorem cj_97 : (97 : Int32) = jI 97 := rfl
theorem cj_98 : (98 : Int32) = jI 98 := rfl
theorem cj_99 : (99 : Int32) = jI 99 := rfl
theorem cj_100 : (100 : Int32) = jI 100 := rfl
theorem cj_109 : (109 : Int32) = jI 109 := rfl
theorem cj_120 : (120 : Int32) = jI 120 := rfl
theorem cj_122 : (122 : Int32) = jI 122 := rfl
theorem cj_127 : (127 : Int32) = jI 127 := rfl
theorem cj_150 : (150 : Int32) = jI 150 := rfl
theorem cj_160 : (160 : Int32) = jI 160 := rfl
theorem cj_179 : (179 : Int32) = jI 179 := rfl
theorem cj_537 : (537 : Int32) = jI 537 := rfl
theorem cj_547 : (547 : Int32) = jI 547 := rfl
theorem cj_916 : (916 : Int32) = jI 916 := rfl
theorem cj_9999 : (9999 : Int32) = jI 9999 := rfl
theorem cj_1000000 : (1000000 : Int32) = jI 1000000 := rfl
theorem cj_999999 : (999999 : Int32) = jI 999999 := rfl
theorem grd_true {α : Type} {x : Option α} : grd True x = x := rfl
theorem nmd_e {α ρ : Type} (e : α) (K : α → Option ρ) : nmd e K = K e := rfl
theorem jn1_e {T0 ρ : Type} (K : T0 → Option ρ) (F : (T0 → Option ρ) → Option ρ) : jn1 K F = F K := rfl
theorem jn0_e {ρ : Type} (K : Option ρ) (F : Option ρ → Option ρ) : jn0 K F = F K := rfl
theorem upd_at (f : Nat → Int32) (k : Nat) (x : Int32) : upd f k x k = x := if_pos rfl
theorem upd_ne {f : Nat → Int32} {k j : Nat} {x : Int32} (h : ¬ j = k) : upd f k x j = f j := if_neg h
