/-! PLAIN LAW 15: whether it is still; a tried state on the twin's row -/
def allZ (f : Nat → Int32) : Nat → Nat → Int32
  | 0, _ => 1
  | r + 1, k => if f k = 0 then allZ f r (k + 1) else 0
theorem allZ_01 (f : Nat → Int32) : ∀ r k, allZ f r k = 0 ∨ allZ f r k = 1 := by
  intro r
  induction r with
  | zero => intro k; exact Or.inr rfl
  | succ r ih =>
    intro k
    simp only [allZ]
    split
    · exact ih _
    · exact Or.inl rfl
theorem x_isStill {N : Nat} (hN : 1000 ≤ N) {m d w th ct : Int32} {pe au : Nat → Option Nat} {ho si sw row : Nat → Int32} (hW : WS row) (hX : XS m d pe au ho si row) {n : Nat} (hn : n < 500) : fX0_isStill N (jI n) w m d ct ho pe th sw si au = some (allZ (fun k => soundS row sw th w (ct + jI k) (-1)) n 0) := by
  have key : ∀ r k fuel, k + r = n → r < fuel → whl2 (fun (x_14 : Int32) (x_15 : Int32) rec_16 => if (jI n) ≤ x_14 then grd (x_15 = 0 ∨ x_15 = 1) (some x_15) else if x_15 = (0 : Int32) then grd (x_15 = 0 ∨ x_15 = 1) (some x_15) else bnd1 (fX1_soundBut N (ct + x_14) w (-1 : Int32) m d ho pe th sw si au) (fun (r_21 : Int32) => if r_21 = (0 : Int32) then rec_16 (x_14 + (1 : Int32)) (1 : Int32) else rec_16 (x_14 + (1 : Int32)) (0 : Int32))) fuel (jI k) 1 = some (allZ (fun k => soundS row sw th w (ct + jI k) (-1)) r k) := by
    intro r
    induction r with
    | zero =>
      intro k fuel hk hf
      obtain ⟨fuel, rfl⟩ : ∃ f, fuel = f + 1 := ⟨fuel - 1, by omega⟩
      simp only [whl2]
      rw [if_pos (by rw [jI_le (by omega) (by omega)]; omega)]; exact grd_pos (Or.inr trivial)
    | succ r ih =>
      intro k fuel hk hf
      obtain ⟨fuel, rfl⟩ : ∃ f, fuel = f + 1 := ⟨fuel - 1, by omega⟩
      simp only [whl2]
      rw [if_neg (by rw [jI_le (by omega) (by omega)]; omega), if_neg (by decide), x_soundBut (by omega) hW hX, bnd1_some, jI_1, ih (k + 1) fuel (by omega) (by omega)]
      by_cases hp : soundS row sw th w (ct + jI k) (-1) = 0
      · rw [if_pos hp]; simp only [allZ]; rw [if_pos hp]
      · rw [if_neg hp]; simp only [allZ]; rw [if_neg hp]
        obtain ⟨fuel, rfl⟩ : ∃ f, fuel = f + 1 := ⟨fuel - 1, by omega⟩
        simp only [whl2]
        by_cases hle : jI n ≤ jI (k + 1)
        · rw [if_pos hle]; exact grd_pos (Or.inl trivial)
        · rw [if_neg hle]; first | exact grd_pos (Or.inl trivial) | (rw [if_pos trivial]; exact grd_pos (Or.inl trivial))
  exact key n 0 N (by omega) (by omega)
/-- the row as it is while a state is tried on it: sw and there at 537.. -/
def TR (row ρ sw : Nat → Int32) (there : Int32) : Prop := (∀ k, k < 537 → ρ k = row k) ∧ (∀ i, i < rn row → ρ (537 + i) = sw i) ∧ ρ 544 = there
theorem m_byT {N : Nat} (hN : 1000 ≤ N) {row ρ sw : Nat → Int32} {there : Int32} (hW : WS row) (hT : TR row ρ sw there) (w c but : Int32) (lea : Nat → Int32) : ∃ lea', fX5_soundBy N 537 w c but ρ lea = some (soundS row sw there w c but, lea') := by
  obtain ⟨e, es, et⟩ := hT
  have e' : ∀ k, 11 ≤ k → k < 35 → ρ k = row k := fun k h1 h2 => e k (by omega)
  have hW2 : WS ρ := WS_c e' hW
  have h := m_soundBy (N := N) (by omega) hW2 (Or.inr rfl : 537 = 0 ∨ 537 = 537) w c but lea
  rw [show ρ (537 + 7) = there from et, soundS_row hW e', soundS_cong es] at h
  exact ⟨_, h⟩
theorem m_atT {N : Nat} (hN : 1000 ≤ N) {row ρ sw : Nat → Int32} {there : Int32} (hW : WS row) (hT : TR row ρ sw there) (c : Int32) (lea : Nat → Int32) : ∃ lea', fX5_soundAt N 537 c ρ lea = some (soundS row sw there (row 10) c (-1), lea') := by
  obtain ⟨lea', h⟩ := m_byT hN hW hT (ρ 10) c (-1) lea
  refine ⟨lea', ?_⟩
  unfold fX5_soundAt
  rw [h, bnd2_some, hT.1 10 (by omega)]
theorem m_by0 {N : Nat} (hN : 1000 ≤ N) {row : Nat → Int32} (hW : WS row) (w c but : Int32) (lea : Nat → Int32) : ∃ lea', fX5_soundBy N 0 w c but row lea = some (soundS row row (row 7) w c but, lea') := by
  have h := m_soundBy (N := N) (by omega) hW (Or.inl rfl : 0 = 0 ∨ 0 = 537) w c but lea
  rw [row0] at h
  exact ⟨_, h⟩
theorem m_isStill {N : Nat} (hN : 1000 ≤ N) {row ρ sw : Nat → Int32} {there : Int32} (hW : WS row) (hT : TR row ρ sw there) {n : Nat} (hn : n < 500) (lea : Nat → Int32) : ∃ lea', fX5_isStill N (jI n) ρ lea = some (allZ (fun k => soundS row sw there (row 10) (row 9 + jI k) (-1)) n 0, lea') := by
  have e9 : ρ 9 = row 9 := hT.1 9 (by omega)
  have key : ∀ r k fuel lea, k + r = n → r < fuel → ∃ lea', whl3 (fun (x_17 : Int32) (x_18 : Int32) (a_19 : Nat → Int32) rec_20 => if (jI n) ≤ x_17 then grd (x_18 = 0 ∨ x_18 = 1) (some (x_18, a_19)) else if x_18 = (0 : Int32) then grd (x_18 = 0 ∨ x_18 = 1) (some (x_18, a_19)) else bnd2 (fX5_soundAt N (537 : Int32) ((row 9) + x_17) ρ a_19) (fun (r_25 : Int32) (o_26 : Nat → Int32) => if r_25 = (0 : Int32) then rec_20 (x_17 + (1 : Int32)) (1 : Int32) o_26 else rec_20 (x_17 + (1 : Int32)) (0 : Int32) o_26)) fuel (jI k) 1 lea = some (allZ (fun k => soundS row sw there (row 10) (row 9 + jI k) (-1)) r k, lea') := by
    intro r
    induction r with
    | zero =>
      intro k fuel lea hk hf
      obtain ⟨fuel, rfl⟩ : ∃ f, fuel = f + 1 := ⟨fuel - 1, by omega⟩
      refine ⟨lea, ?_⟩
      simp only [whl3]
      rw [if_pos (by rw [jI_le (by omega) (by omega)]; omega)]; exact grd_pos (Or.inr trivial)
    | succ r ih =>
      intro k fuel lea hk hf
      obtain ⟨fuel, rfl⟩ : ∃ f, fuel = f + 1 := ⟨fuel - 1, by omega⟩
      obtain ⟨lea1, hl⟩ := m_atT hN hW hT (row 9 + jI k) lea
      obtain ⟨lea2, hi⟩ := ih (k + 1) fuel lea1 (by omega) (by omega)
      by_cases hp : soundS row sw there (row 10) (row 9 + jI k) (-1) = 0
      · refine ⟨lea2, ?_⟩
        simp only [whl3]
        rw [if_neg (by rw [jI_le (by omega) (by omega)]; omega), if_neg (by decide), hl, bnd2_some, jI_1, if_pos hp, hi]
        simp only [allZ]; rw [if_pos hp]
      · refine ⟨lea1, ?_⟩
        simp only [whl3]
        rw [if_neg (by rw [jI_le (by omega) (by omega)]; omega), if_neg (by decide), hl, bnd2_some, jI_1, if_neg hp]
        simp only [allZ]; rw [if_neg hp]
        obtain ⟨fuel, rfl⟩ : ∃ f, fuel = f + 1 := ⟨fuel - 1, by omega⟩
        simp only [whl3]
        by_cases hle : jI n ≤ jI (k + 1)
        · rw [if_pos hle]; exact grd_pos (Or.inl trivial)
        · rw [if_neg hle]; first | exact grd_pos (Or.inl trivial) | (rw [if_pos trivial]; exact grd_pos (Or.inl trivial))
  obtain ⟨lea', h⟩ := key n 0 N lea (by omega) (by omega)
  refine ⟨lea', ?_⟩
  unfold fX5_isStill
  rw [e9]
  exact h
