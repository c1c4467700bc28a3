/-! PLAIN LAW 16: loops by invariant; literals -/
theorem whl1_Q {T0 ρ : Type} {step : T0 → (T0 → Option ρ) → Option ρ} (Q : Option ρ → Prop) (P : Nat → T0 → Prop) (n : Nat) (h : ∀ k, k ≤ n → ∀ x0, P k x0 → ∀ rec, (k < n → ∀ y0, P (k + 1) y0 → Q (rec y0)) → Q (step x0 rec)) : ∀ fuel, n < fuel → ∀ x0, P 0 x0 → Q (whl1 step fuel x0) := by
  have key : ∀ m k fuel, k + m = n → m < fuel → ∀ x0, P k x0 → Q (whl1 step fuel x0) := by
    intro m
    induction m with
    | zero =>
      intro k fuel hk hf x0 hp
      obtain ⟨fuel, rfl⟩ : ∃ f, fuel = f + 1 := ⟨fuel - 1, by omega⟩
      exact h k (by omega) x0 hp (whl1 step fuel) (fun hk2 => absurd hk2 (by omega))
    | succ m ih =>
      intro k fuel hk hf x0 hp
      obtain ⟨fuel, rfl⟩ : ∃ f, fuel = f + 1 := ⟨fuel - 1, by omega⟩
      exact h k (by omega) x0 hp (whl1 step fuel) (fun _ y0 hp2 => ih (k + 1) fuel (by omega) (by omega) y0 hp2)
  exact fun fuel hf => key n 0 fuel (by omega) hf
theorem whl2_Q {T0 T1 ρ : Type} {step : T0 → T1 → (T0 → T1 → Option ρ) → Option ρ} (Q : Option ρ → Prop) (P : Nat → T0 → T1 → Prop) (n : Nat) (h : ∀ k, k ≤ n → ∀ x0 x1, P k x0 x1 → ∀ rec, (k < n → ∀ y0 y1, P (k + 1) y0 y1 → Q (rec y0 y1)) → Q (step x0 x1 rec)) : ∀ fuel, n < fuel → ∀ x0 x1, P 0 x0 x1 → Q (whl2 step fuel x0 x1) := by
  have key : ∀ m k fuel, k + m = n → m < fuel → ∀ x0 x1, P k x0 x1 → Q (whl2 step fuel x0 x1) := by
    intro m
    induction m with
    | zero =>
      intro k fuel hk hf x0 x1 hp
      obtain ⟨fuel, rfl⟩ : ∃ f, fuel = f + 1 := ⟨fuel - 1, by omega⟩
      exact h k (by omega) x0 x1 hp (whl2 step fuel) (fun hk2 => absurd hk2 (by omega))
    | succ m ih =>
      intro k fuel hk hf x0 x1 hp
      obtain ⟨fuel, rfl⟩ : ∃ f, fuel = f + 1 := ⟨fuel - 1, by omega⟩
      exact h k (by omega) x0 x1 hp (whl2 step fuel) (fun _ y0 y1 hp2 => ih (k + 1) fuel (by omega) (by omega) y0 y1 hp2)
  exact fun fuel hf => key n 0 fuel (by omega) hf
theorem whl3_Q {T0 T1 T2 ρ : Type} {step : T0 → T1 → T2 → (T0 → T1 → T2 → Option ρ) → Option ρ} (Q : Option ρ → Prop) (P : Nat → T0 → T1 → T2 → Prop) (n : Nat) (h : ∀ k, k ≤ n → ∀ x0 x1 x2, P k x0 x1 x2 → ∀ rec, (k < n → ∀ y0 y1 y2, P (k + 1) y0 y1 y2 → Q (rec y0 y1 y2)) → Q (step x0 x1 x2 rec)) : ∀ fuel, n < fuel → ∀ x0 x1 x2, P 0 x0 x1 x2 → Q (whl3 step fuel x0 x1 x2) := by
  have key : ∀ m k fuel, k + m = n → m < fuel → ∀ x0 x1 x2, P k x0 x1 x2 → Q (whl3 step fuel x0 x1 x2) := by
    intro m
    induction m with
    | zero =>
      intro k fuel hk hf x0 x1 x2 hp
      obtain ⟨fuel, rfl⟩ : ∃ f, fuel = f + 1 := ⟨fuel - 1, by omega⟩
      exact h k (by omega) x0 x1 x2 hp (whl3 step fuel) (fun hk2 => absurd hk2 (by omega))
    | succ m ih =>
      intro k fuel hk hf x0 x1 x2 hp
      obtain ⟨fuel, rfl⟩ : ∃ f, fuel = f + 1 := ⟨fuel - 1, by omega⟩
      exact h k (by omega) x0 x1 x2 hp (whl3 step fuel) (fun _ y0 y1 y2 hp2 => ih (k + 1) fuel (by omega) (by omega) y0 y1 y2 hp2)
  exact fun fuel hf => key n 0 fuel (by omega) hf
theorem whl4_Q {T0 T1 T2 T3 ρ : Type} {step : T0 → T1 → T2 → T3 → (T0 → T1 → T2 → T3 → Option ρ) → Option ρ} (Q : Option ρ → Prop) (P : Nat → T0 → T1 → T2 → T3 → Prop) (n : Nat) (h : ∀ k, k ≤ n → ∀ x0 x1 x2 x3, P k x0 x1 x2 x3 → ∀ rec, (k < n → ∀ y0 y1 y2 y3, P (k + 1) y0 y1 y2 y3 → Q (rec y0 y1 y2 y3)) → Q (step x0 x1 x2 x3 rec)) : ∀ fuel, n < fuel → ∀ x0 x1 x2 x3, P 0 x0 x1 x2 x3 → Q (whl4 step fuel x0 x1 x2 x3) := by
  have key : ∀ m k fuel, k + m = n → m < fuel → ∀ x0 x1 x2 x3, P k x0 x1 x2 x3 → Q (whl4 step fuel x0 x1 x2 x3) := by
    intro m
    induction m with
    | zero =>
      intro k fuel hk hf x0 x1 x2 x3 hp
      obtain ⟨fuel, rfl⟩ : ∃ f, fuel = f + 1 := ⟨fuel - 1, by omega⟩
      exact h k (by omega) x0 x1 x2 x3 hp (whl4 step fuel) (fun hk2 => absurd hk2 (by omega))
    | succ m ih =>
      intro k fuel hk hf x0 x1 x2 x3 hp
      obtain ⟨fuel, rfl⟩ : ∃ f, fuel = f + 1 := ⟨fuel - 1, by omega⟩
      exact h k (by omega) x0 x1 x2 x3 hp (whl4 step fuel) (fun _ y0 y1 y2 y3 hp2 => ih (k + 1) fuel (by omega) (by omega) y0 y1 y2 y3 hp2)
  exact fun fuel hf => key n 0 fuel (by omega) hf
theorem whl5_Q {T0 T1 T2 T3 T4 ρ : Type} {step : T0 → T1 → T2 → T3 → T4 → (T0 → T1 → T2 → T3 → T4 → Option ρ) → Option ρ} (Q : Option ρ → Prop) (P : Nat → T0 → T1 → T2 → T3 → T4 → Prop) (n : Nat) (h : ∀ k, k ≤ n → ∀ x0 x1 x2 x3 x4, P k x0 x1 x2 x3 x4 → ∀ rec, (k < n → ∀ y0 y1 y2 y3 y4, P (k + 1) y0 y1 y2 y3 y4 → Q (rec y0 y1 y2 y3 y4)) → Q (step x0 x1 x2 x3 x4 rec)) : ∀ fuel, n < fuel → ∀ x0 x1 x2 x3 x4, P 0 x0 x1 x2 x3 x4 → Q (whl5 step fuel x0 x1 x2 x3 x4) := by
  have key : ∀ m k fuel, k + m = n → m < fuel → ∀ x0 x1 x2 x3 x4, P k x0 x1 x2 x3 x4 → Q (whl5 step fuel x0 x1 x2 x3 x4) := by
    intro m
    induction m with
    | zero =>
      intro k fuel hk hf x0 x1 x2 x3 x4 hp
      obtain ⟨fuel, rfl⟩ : ∃ f, fuel = f + 1 := ⟨fuel - 1, by omega⟩
      exact h k (by omega) x0 x1 x2 x3 x4 hp (whl5 step fuel) (fun hk2 => absurd hk2 (by omega))
    | succ m ih =>
      intro k fuel hk hf x0 x1 x2 x3 x4 hp
      obtain ⟨fuel, rfl⟩ : ∃ f, fuel = f + 1 := ⟨fuel - 1, by omega⟩
      exact h k (by omega) x0 x1 x2 x3 x4 hp (whl5 step fuel) (fun _ y0 y1 y2 y3 y4 hp2 => ih (k + 1) fuel (by omega) (by omega) y0 y1 y2 y3 y4 hp2)
  exact fun fuel hf => key n 0 fuel (by omega) hf
theorem whl6_Q {T0 T1 T2 T3 T4 T5 ρ : Type} {step : T0 → T1 → T2 → T3 → T4 → T5 → (T0 → T1 → T2 → T3 → T4 → T5 → Option ρ) → Option ρ} (Q : Option ρ → Prop) (P : Nat → T0 → T1 → T2 → T3 → T4 → T5 → Prop) (n : Nat) (h : ∀ k, k ≤ n → ∀ x0 x1 x2 x3 x4 x5, P k x0 x1 x2 x3 x4 x5 → ∀ rec, (k < n → ∀ y0 y1 y2 y3 y4 y5, P (k + 1) y0 y1 y2 y3 y4 y5 → Q (rec y0 y1 y2 y3 y4 y5)) → Q (step x0 x1 x2 x3 x4 x5 rec)) : ∀ fuel, n < fuel → ∀ x0 x1 x2 x3 x4 x5, P 0 x0 x1 x2 x3 x4 x5 → Q (whl6 step fuel x0 x1 x2 x3 x4 x5) := by
  have key : ∀ m k fuel, k + m = n → m < fuel → ∀ x0 x1 x2 x3 x4 x5, P k x0 x1 x2 x3 x4 x5 → Q (whl6 step fuel x0 x1 x2 x3 x4 x5) := by
    intro m
    induction m with
    | zero =>
      intro k fuel hk hf x0 x1 x2 x3 x4 x5 hp
      obtain ⟨fuel, rfl⟩ : ∃ f, fuel = f + 1 := ⟨fuel - 1, by omega⟩
      exact h k (by omega) x0 x1 x2 x3 x4 x5 hp (whl6 step fuel) (fun hk2 => absurd hk2 (by omega))
    | succ m ih =>
      intro k fuel hk hf x0 x1 x2 x3 x4 x5 hp
      obtain ⟨fuel, rfl⟩ : ∃ f, fuel = f + 1 := ⟨fuel - 1, by omega⟩
      exact h k (by omega) x0 x1 x2 x3 x4 x5 hp (whl6 step fuel) (fun _ y0 y1 y2 y3 y4 y5 hp2 => ih (k + 1) fuel (by omega) (by omega) y0 y1 y2 y3 y4 y5 hp2)
  exact fun fuel hf => key n 0 fuel (by omega) hf
theorem nle {a : Int32} {n k : Nat} (e : a = jI n) (h : k < n) (hn : n < 2147483648) : ¬ a ≤ jI k := by
  rw [e, jI_le hn (by omega)]; omega
theorem ple {a : Int32} {n k : Nat} (e : a = jI n) (h : n ≤ k) (hk : k < 2147483648) : a ≤ jI k := by
  rw [e, jI_le (by omega) hk]; exact h
theorem nlt {a : Int32} {n k : Nat} (e : a = jI n) (h : k ≤ n) (hn : n < 2147483648) : ¬ a < jI k := by
  rw [e, jI_lt hn (by omega)]; omega
theorem plt {a : Int32} {n k : Nat} (e : a = jI n) (h : n < k) (hk : k < 2147483648) : a < jI k := by
  rw [e, jI_lt (by omega) hk]; exact h
theorem nle2 {b : Int32} {n k : Nat} (e : b = jI n) (h : n < k) (hk : k < 2147483648) : ¬ jI k ≤ b := by
  rw [e, jI_le hk (by omega)]; omega
theorem ple2 {b : Int32} {n k : Nat} (e : b = jI n) (h : k ≤ n) (hn : n < 2147483648) : jI k ≤ b := by
  rw [e, jI_le (by omega) hn]; exact h
theorem nlt2 {b : Int32} {n k : Nat} (e : b = jI n) (h : n ≤ k) (hk : k < 2147483648) : ¬ jI k < b := by
  rw [e, jI_lt hk (by omega)]; omega
theorem plt2 {b : Int32} {n k : Nat} (e : b = jI n) (h : k < n) (hn : n < 2147483648) : jI k < b := by
  rw [e, jI_lt (by omega) hn]; exact h
theorem neq2 {b : Int32} {n k : Nat} (e : b = jI n) (h : ¬ k = n) (hk : k < 2147483648) (hn : n < 2147483648) : ¬ jI k = b := by
  rw [e, jI_eq hk hn]; exact h
theorem if10 {α : Type} {i : Decidable ((1 : Int32) = (0 : Int32))} {a b : α} : @ite α _ i a b = b := if_neg (by decide)
theorem if00 {α : Type} {i : Decidable ((0 : Int32) = (0 : Int32))} {a b : α} : @ite α _ i a b = a := if_pos rfl
theorem ifm1 {α : Type} {k : Nat} {i : Decidable (jI k = (-1 : Int32))} {a b : α} (hk : k < 2147483648) : @ite α _ i a b = b := by
  apply if_neg
  intro h
  have h2 := congrArg Int32.toInt h
  rw [jI_toInt hk] at h2
  have h3 : (-1 : Int32).toInt = -1 := by decide
  omega
theorem jI_0e (k : Nat) (h : k < 2147483648) : (jI k = (0 : Int32)) = (k = 0) := by rw [cj_0, jI_eq h (by omega)]
theorem jI_0l (k : Nat) (h : k < 2147483648) : (jI k ≤ (0 : Int32)) = (k = 0) := by rw [cj_0, jI_le h (by omega)]; exact propext ⟨fun h => by omega, fun h => by omega⟩
theorem shl1 : ∀ d, d < 31 → jshl (1 : Int32) (jI d) = jI (2 ^ d) := by decide +kernel
theorem soundS_0 {row sw : Nat → Int32} {there c but : Int32} {w : Nat} (hW : WS row) (hs : SwOk row sw) (hw : w ≤ 30) : (soundS row sw there (jI w) c but ≤ 0) = (soundS row sw there (jI w) c but = 0) := by
  obtain ⟨z, hz, e⟩ := soundS_le (there := there) (c := c) (but := but) hW hs hw
  rw [e, jI_0l z (by omega), jI_0e z (by omega)]
theorem soundS_upd {row a : Nat → Int32} {i : Nat} {th w c b v : Int32} (h : ∀ j, j < rn row → ¬ j = i → a j = row j) : soundS row (upd a i v) th w c b = soundS row (upd row i v) th w c b := by
  apply soundS_cong
  intro j hj
  by_cases e : j = i
  · subst e; rw [upd_at, upd_at]
  · rw [upd_ne e, upd_ne e]; exact h j hj e
theorem upd_keep {row a : Nat → Int32} {i : Nat} {v : Int32} (h : ∀ j, j < rn row → ¬ j = i → a j = row j) : ∀ j, j < rn row → ¬ j = i → upd a i v j = row j := fun j hj e => by rw [upd_ne e]; exact h j hj e
/-- the row while swing i is tried -/
def TX (row ρ : Nat → Int32) (i : Nat) (th : Int32) : Prop := (∀ k, k < 537 → ρ k = row k) ∧ (∀ j, j < rn row → ¬ j = i → ρ (537 + j) = row j) ∧ ρ 544 = th
theorem TX_upd {row ρ : Nat → Int32} {i : Nat} {th v : Int32} (h7 : rn row ≤ 7) (hi : i < rn row) (h : TX row ρ i th) : TR row (upd ρ (537 + i) v) (upd row i v) th := by
  obtain ⟨a, b, c⟩ := h
  refine ⟨?_, ?_, ?_⟩
  · intro k hk; rw [upd_ne (by omega)]; exact a k hk
  · intro j hj
    by_cases e : j = i
    · subst e; rw [upd_at, upd_at]
    · rw [upd_ne (by omega), upd_ne e]; exact b j hj e
  · rw [upd_ne (by omega)]; exact c
theorem TX_keep {row ρ : Nat → Int32} {i : Nat} {th v : Int32} (h7 : rn row ≤ 7) (hi : i < rn row) (h : TX row ρ i th) : TX row (upd ρ (537 + i) v) i th := by
  obtain ⟨a, b, c⟩ := h
  refine ⟨?_, ?_, ?_⟩
  · intro k hk; rw [upd_ne (by omega)]; exact a k hk
  · intro j hj e
    rw [upd_ne (by omega)]; exact b j hj e
  · rw [upd_ne (by omega)]; exact c
theorem TR_there {row ρ s : Nat → Int32} {th t : Int32} (h7 : rn row ≤ 7) (h : TR row ρ s th) : TR row (upd ρ 544 t) s t := by
  obtain ⟨a, b, c⟩ := h
  refine ⟨?_, ?_, upd_at _ _ _⟩
  · intro k hk; rw [upd_ne (by omega)]; exact a k hk
  · intro j hj; rw [upd_ne (by omega)]; exact b j hj
theorem TR_lay {row : Nat → Int32} (h7 : rn row ≤ 7) : TR row (cpR row 537 10) row (row 7) := by
  refine ⟨?_, ?_, ?_⟩
  · intro k hk; exact cpR_lo (by omega)
  · intro j hj; exact cpR_in (by omega)
  · exact cpR_in (b := 537) (j := 7) (by omega)
theorem TX_of {row ρ : Nat → Int32} {i : Nat} {th : Int32} (h : TR row ρ row th) : TX row ρ i th := ⟨h.1, fun j hj _ => h.2.1 j hj, h.2.2⟩
theorem findS_go {f : Nat → Int32} {n k : Nat} {V : Int32} (hk : k < n) (hp : f k ≤ 0) (h : findS f (n - k) k = V) : findS f (n - (k + 1)) (k + 1) = V := by
  have e : n - k = (n - (k + 1)) + 1 := by omega
  rw [e] at h
  simp only [findS] at h
  rw [if_pos hp] at h
  exact h
theorem findS_at {f : Nat → Int32} {n k : Nat} {V : Int32} (hk : k < n) (hp : ¬ f k ≤ 0) (h : findS f (n - k) k = V) : jI k = V := by
  have e : n - k = (n - (k + 1)) + 1 := by omega
  rw [e] at h
  simp only [findS] at h
  rw [if_neg hp] at h
  exact h
theorem findS_end {f : Nat → Int32} {n k : Nat} {V : Int32} (hk : ¬ k < n) (h : findS f (n - k) k = V) : (-1 : Int32) = V := by
  have e : n - k = 0 := by omega
  rw [e] at h
  exact h
def stNx (f : Nat → Int32) (k : Nat) (fd : Option Nat) : Option Nat := match fd with
  | none => if f k = 0 then none else some k
  | some g => if pc g ≤ pc k then some g else if f k = 0 then some g else some k
def stGo (f : Nat → Int32) : Nat → Nat → Option Nat → Option Nat
  | 0, _, fd => fd
  | r + 1, k, fd => stGo f r (k + 1) (stNx f k fd)
theorem stGo_s {f : Nat → Int32} {n k : Nat} {fd V : Option Nat} (hk : k < n) (h : stGo f (n - k) k fd = V) : stGo f (n - (k + 1)) (k + 1) (stNx f k fd) = V := by
  have e : n - k = (n - (k + 1)) + 1 := by omega
  rw [e] at h; exact h
theorem stNx_ok {f : Nat → Int32} {k : Nat} {fd : Option Nat} (hk : k < 16) (h : ∀ g, fd = some g → g < 16) : ∀ g, stNx f k fd = some g → g < 16 := by
  intro g hg
  cases fd with
  | none =>
    simp only [stNx] at hg
    split at hg
    · cases hg
    · cases hg; exact hk
  | some a =>
    simp only [stNx] at hg
    split at hg
    · cases hg; exact h a rfl
    · split at hg
      · cases hg; exact h a rfl
      · cases hg; exact hk
def oI (fd : Option Nat) : Int32 := match fd with
  | none => -1
  | some k => jI k
theorem oI_m1 {fd : Option Nat} (h : ∀ g, fd = some g → g < 16) : (oI fd = -1) = (fd = none) := by
  cases fd with
  | none => exact propext ⟨fun _ => rfl, fun _ => rfl⟩
  | some g =>
    have hg := h g rfl
    apply propext
    constructor
    · intro e
      exfalso
      have h2 := congrArg Int32.toInt e
      rw [show oI (some g) = jI g from rfl, jI_toInt (by omega)] at h2
      have h3 : (-1 : Int32).toInt = -1 := by decide
      omega
    · intro e; cases e
theorem pc_le : ∀ s, s < 16 → pc s ≤ 4 := by decide
theorem allZ_c {f g : Nat → Int32} (h : ∀ k, f k = g k) (r k : Nat) : allZ f r k = allZ g r k := by rw [funext h]
theorem op_still {N : Nat} (hN : 1000 ≤ N) {w : Int32} {m : Int32} {d : Int32} {h : Int32} {t : Int32} {q : Int32} {u : Int32} {pe : Nat → Option Nat} {ho : Nat → Int32} {au : Nat → Option Nat} {si : Nat → Int32} {he : Nat → Int32} {no : Nat → Int32} {ma : Nat → Int32} {th : Int32} {ns : Int32} {ct : Int32} {sw : Nat → Int32} {ws : Nat → Nat → Int32} {wt : Nat → Int32} {wn : Nat → Int32} {wc : Nat → Int32} {im : Nat → Option LT} {tx : Nat → Int32} {ty : Int32} {row kept words : Nat → Int32} (H : RR (w, m, d, h, t, q, u, pe, ho, au, si, he, no, ma, th, ns, ct, sw, ws, wt, wn, wc) im tx ty row kept words) (p1 : Int32) (tth : Int32) (tns : Int32) (tct : Int32) (tsw : Nat → Int32) (rf : Nat → Int32) (lea : Nat → Int32) : ∃ (r : Int32) (tth' : Int32) (tns' : Int32) (tct' : Int32) (tsw' : Nat → Int32) (rf' : Nat → Int32) (row' : Nat → Int32) (lea' : Nat → Int32), fX0_still N p1 w m d tth tns tct th ns ct tsw sw ho pe si au rf = some (r, tth', tns', tct', tsw', rf') ∧ fX5_still N p1 row lea rf = some (r, row', lea', rf') ∧ RR (w, m, d, h, t, q, u, pe, ho, au, si, he, no, ma, th, ns, ct, sw, ws, wt, wn, wc) im tx ty row' kept words := by
  have H' := H
  obtain ⟨⟨ga, gw, gh, gt, gq, gs, gu⟩, gi, gx, gW⟩ := H'
  have ga' := ga
  obtain ⟨hW, hX, okp, oka, h01⟩ := ga'
  have hX' := hX
  obtain ⟨em, ed, e3, e4, e5, e6⟩ := hX'
  have hW' := hW
  obtain ⟨h7, hn, h4, hd, hK, hA⟩ := hW'
  have hn1 : rn row < 1000 := by omega
  have hd1 : rd row < 1000 := by omega
  by_cases hb : inR p1 1 60
  · obtain ⟨n, ep, hi, hh⟩ := inR_nat (b := 60) ⟨by have := hb.1; omega, hb.2⟩
    subst ep
    have es : ∀ i, i < rn row → sw i = row i := fun i hi => by have := (gs.2.2.2.2 i hi).1; rwa [Nat.zero_add] at this
    have e9 : row 9 = ct := gs.2.2.1
    have e10 : row 10 = w := gw.1
    have hd2 : 2 ^ rd row ≤ 2 ^ 4 := Nat.pow_le_pow_right (by omega) h4
    have hsh := shl1 (rd row) (by omega)
    have hshd : jshl (1 : Int32) d = jI (2 ^ rd row) := by rw [ed]; exact hsh
    obtain ⟨f, hf⟩ : ∃ f : Nat → Int32, ∀ k, f k = allZ (fun j => soundS row row (jI k) w (ct + jI j) (-1)) n 0 := ⟨_, fun _ => rfl⟩
    obtain ⟨V, hV⟩ : ∃ V, stGo f (2 ^ rd row) 0 none = V := ⟨_, rfl⟩
    have hx1 : ∀ k, fX0_isStill N (jI n) w m d ct ho pe (jI k) (va_cpy sw tsw 0 0 7) si au = some (f k) := by
      intro k
      rw [x_isStill hN hW hX (by omega), hf]
      congr 1
      apply allZ_c
      intro j
      apply soundS_cong
      intro i hi
      rw [cpy_at (by omega), es i hi]
    have hx : ∃ t, fX0_still N p1 w m d tth tns tct th ns ct tsw sw ho pe si au rf = some (oI V, t, ns, ct, va_cpy sw tsw 0 0 7, rf) := by
      obtain ⟨Q, hQ⟩ : ∃ Q : Option (Int32 × Int32 × Int32 × Int32 × (Nat → Int32) × (Nat → Int32)) → Prop, Q = fun X => ∃ t, X = some (oI V, t, ns, ct, va_cpy sw tsw 0 0 7, rf) := ⟨_, rfl⟩
      have hq : Q (fX0_still N p1 w m d tth tns tct th ns ct tsw sw ho pe si au rf) := by
        unfold fX0_still
        rw [in0_1_60_t N hb, bnd1_some, if10, x_takes2, bnd4_some, hshd]
        refine whl3_Q Q (fun k x y _ => x = jI k ∧ ∃ fd, y = oI fd ∧ (∀ g, fd = some g → g < 16) ∧ stGo f (2 ^ rd row - k) k fd = V) (2 ^ rd row) ?_ N (by omega) _ _ _ ⟨rfl, none, rfl, (fun g hg => by cases hg), hV⟩
        intro k hk x y t hp rec hr
        obtain ⟨rfl, fd, rfl, hfd, hg⟩ := hp
        by_cases hlt : k < 2 ^ rd row
        · have hk16 : k < 16 := by omega
          have h2 := stGo_s hlt hg
          have hok := stNx_ok (f := f) hk16 hfd
          rw [if_neg (nle rfl hlt (by omega))]
          simp only [jn1_e, jn0_e, one_eq_zero, zero_eq_one, if_true, if_false]
          cases fd with
          | none =>
            rw [if_pos (show oI none = (-1 : Int32) from rfl), hx1, bnd1_some]
            by_cases hz : f k = 0
            · rw [if_pos hz]
              refine hr hlt _ _ _ ⟨jI_1 k, none, rfl, hfd, ?_⟩
              simp only [stNx, hz, if_true] at h2; exact h2
            · rw [if_neg hz]
              refine hr hlt _ _ _ ⟨jI_1 k, some k, rfl, (fun g hg => by cases hg; exact hk16), ?_⟩
              simp only [stNx, hz, if_false] at h2; exact h2
          | some g =>
            have hg16 := hfd g rfl
            have p1 := pc_le g hg16
            have p2 := pc_le k hk16
            rw [if_neg (by rw [oI_m1 hfd]; intro e; cases e), x_bitCount N hk16, bnd1_some, show oI (some g) = jI g from rfl, x_bitCount N hg16, bnd1_some]
            by_cases hc : pc g ≤ pc k
            · rw [if_pos (by rw [jI_le (by omega) (by omega)]; exact hc)]
              refine hr hlt _ _ _ ⟨jI_1 k, some g, rfl, hfd, ?_⟩
              simp only [stNx, hc, if_true] at h2; exact h2
            · rw [if_neg (by rw [jI_le (by omega) (by omega)]; exact hc), hx1, bnd1_some]
              by_cases hz : f k = 0
              · rw [if_pos hz]
                refine hr hlt _ _ _ ⟨jI_1 k, some g, rfl, hfd, ?_⟩
                simp only [stNx, hc, hz, if_true, if_false] at h2; exact h2
              · rw [if_neg hz]
                refine hr hlt _ _ _ ⟨jI_1 k, some k, rfl, (fun g hg => by cases hg; exact hk16), ?_⟩
                simp only [stNx, hc, hz, if_false] at h2; exact h2
        · rw [if_pos (ple rfl (by omega) (by omega)), hQ]
          have e0 : 2 ^ rd row - k = 0 := by omega
          rw [e0] at hg
          exact ⟨t, by rw [← hg]; rfl⟩
      rw [hQ] at hq; exact hq
    have hm : ∃ ρ lea', fX5_still N p1 row lea rf = some (oI V, ρ, lea', rf) ∧ ∀ k, k < 537 → ρ k = row k := by
      obtain ⟨Q, hQ⟩ : ∃ Q : Option (Int32 × (Nat → Int32) × (Nat → Int32) × (Nat → Int32)) → Prop, Q = fun X => ∃ ρ lea', X = some (oI V, ρ, lea', rf) ∧ ∀ k, k < 537 → ρ k = row k := ⟨_, rfl⟩
      have hq : Q (fX5_still N p1 row lea rf) := by
        unfold fX5_still
        rw [in5_1_60_t N hb, bnd1_some, if10, m_tried hN, bnd1_some]
        refine whl4_Q Q (fun k x y a _ => x = jI k ∧ (∃ fd, y = oI fd ∧ (∀ g, fd = some g → g < 16) ∧ stGo f (2 ^ rd row - k) k fd = V) ∧ ∃ t, TR row a row t) (2 ^ rd row) ?_ N (by omega) _ _ _ _ ⟨rfl, ⟨none, rfl, (fun g hg => by cases hg), hV⟩, row 7, TR_lay h7⟩
        intro k hk x y a l hp rec hr
        obtain ⟨rfl, ⟨fd, rfl, hfd, hg⟩, t, hT⟩ := hp
        have ea : a 26 = jI (rd row) := by rw [hT.1 26 (by omega), hd]
        rw [ea, hsh]
        by_cases hlt : k < 2 ^ rd row
        · have hk16 : k < 16 := by omega
          have h2 := stGo_s hlt hg
          have hok := stNx_ok (f := f) hk16 hfd
          have hT2 := TR_there (t := jI k) h7 hT
          obtain ⟨l', hl⟩ := m_isStill hN hW hT2 (by omega : n < 500) l
          rw [e9, e10, ← hf] at hl
          rw [if_neg (nle rfl hlt (by omega))]
          simp only [jn1_e, jn0_e, one_eq_zero, zero_eq_one, if_true, if_false]
          cases fd with
          | none =>
            rw [if_pos (show oI none = (-1 : Int32) from rfl), hl, bnd2_some]
            by_cases hz : f k = 0
            · rw [if_pos hz]
              refine hr hlt _ _ _ _ ⟨jI_1 k, ⟨none, rfl, hfd, ?_⟩, _, hT2⟩
              simp only [stNx, hz, if_true] at h2; exact h2
            · rw [if_neg hz]
              refine hr hlt _ _ _ _ ⟨jI_1 k, ⟨some k, rfl, (fun g hg => by cases hg; exact hk16), ?_⟩, _, hT2⟩
              simp only [stNx, hz, if_false] at h2; exact h2
          | some g =>
            have hg16 := hfd g rfl
            have p1 := pc_le g hg16
            have p2 := pc_le k hk16
            rw [if_neg (by rw [oI_m1 hfd]; intro e; cases e), m_bits (by omega) hk16, bnd1_some, show oI (some g) = jI g from rfl, m_bits (by omega) hg16, bnd1_some]
            by_cases hc : pc g ≤ pc k
            · rw [if_pos (by rw [jI_le (by omega) (by omega)]; exact hc)]
              refine hr hlt _ _ _ _ ⟨jI_1 k, ⟨some g, rfl, hfd, ?_⟩, _, hT2⟩
              simp only [stNx, hc, if_true] at h2; exact h2
            · rw [if_neg (by rw [jI_le (by omega) (by omega)]; exact hc), hl, bnd2_some]
              by_cases hz : f k = 0
              · rw [if_pos hz]
                refine hr hlt _ _ _ _ ⟨jI_1 k, ⟨some g, rfl, hfd, ?_⟩, _, hT2⟩
                simp only [stNx, hc, hz, if_true, if_false] at h2; exact h2
              · rw [if_neg hz]
                refine hr hlt _ _ _ _ ⟨jI_1 k, ⟨some k, rfl, (fun g hg => by cases hg; exact hk16), ?_⟩, _, hT2⟩
                simp only [stNx, hc, hz, if_false] at h2; exact h2
        · rw [if_pos (ple rfl (by omega) (by omega)), hQ]
          have e0 : 2 ^ rd row - k = 0 := by omega
          rw [e0] at hg
          exact ⟨a, l, by rw [← hg]; rfl, hT.1⟩
      rw [hQ] at hq; exact hq
    obtain ⟨t, hx⟩ := hx
    obtain ⟨ρ, lea', hm, he⟩ := hm
    exact ⟨_, _, _, _, _, _, _, _, hx, hm, RR_s he H⟩
  · exact ⟨_, _, _, _, _, _, _, _, (by unfold fX0_still; simp only [bnd1_some, bnd2_some, bnd3_some, bnd4_some, bnd5_some, bnd6_some, bnd7_some, bnd8_some, bnd9_some, bnd10_some, bnd11_some, bnd12_some, one_eq_zero, if_true, if_false, x_bad, x_no, x_full, x_badAsk, x_refuses0, m_refuse_bad, m_refuse_no, m_refuse_full, m_badAs, g0_t, g0_f, grd_true, nmd_e, jn1_e, in0_1_60_f N hb] : fX0_still N p1 w m d tth tns tct th ns ct tsw sw ho pe si au rf = some (-2, tth, tns, tct, tsw, ref 0 rf)), (by unfold fX5_still; simp only [bnd1_some, bnd2_some, bnd3_some, bnd4_some, bnd5_some, bnd6_some, bnd7_some, bnd8_some, bnd9_some, bnd10_some, bnd11_some, bnd12_some, one_eq_zero, if_true, if_false, x_bad, x_no, x_full, x_badAsk, x_refuses0, m_refuse_bad, m_refuse_no, m_refuse_full, m_badAs, g0_t, g0_f, grd_true, nmd_e, jn1_e, in5_1_60_f N hb] : fX5_still N p1 row lea rf = some (-2, row, lea, ref 0 rf)), H⟩
