/-! PLAIN LAW 10: remembering, both sides; undo; swings; sends -/
theorem cpy_at {f g : Nat → Int32} {i : Nat} (h : i < 7) : va_cpy f g 0 0 7 i = f i := by
  unfold va_cpy
  rw [if_pos (by omega)]
  congr 1
  omega
theorem x_takes2 (N : Nat) (a b c : Int32) (s0 s1 : Nat → Int32) : fX2_takes N a b c s0 s1 = some (a, b, c, va_cpy s1 s0 0 0 7) := rfl
theorem lt7c {k : Nat} (h : k < 7) : k = 0 ∨ k = 1 ∨ k = 2 ∨ k = 3 ∨ k = 4 ∨ k = 5 ∨ k = 6 := by omega
theorem x_rem8 (N : Nat) (ws : Nat → Nat → Int32) (wt wn wc : Nat → Int32) (th ns ct : Int32) (sw : Nat → Int32) : ∃ ws' wt' wn' wc', fX1_remembers N (jI 8) ws wt wn wc th ns ct sw = some (jI 8, ws', wt', wn', wc') ∧ (∀ k, k < 7 → wt' k = wt (k + 1) ∧ wn' k = wn (k + 1) ∧ wc' k = wc (k + 1) ∧ ∀ i, i < 7 → ws' k i = ws (k + 1) i) ∧ wt' 7 = th ∧ wn' 7 = ns ∧ wc' 7 = ct ∧ ∀ i, i < 7 → ws' 7 i = sw i := by
  unfold fX1_remembers
  rw [jn5_e, if_pos (show jI 8 = (8 : Int32) from rfl)]
  simp only [x_takes2, bnd4_some]
  have e7 : jI 8 - (1 : Int32) = jI 7 := by rw [cj_1, jI_sub (by omega)]
  rw [e7]
  simp (disch := omega) only [grd_pos, grd_true, jI_le, jI_lt, jI_eq, jI_nat, jI_add, jI_mul, if_pos, if_neg, bnd1_some, bnd2_some, bnd3_some, bnd4_some, bnd5_some, bnd6_some, bnd7_some, nmd_e, true_and, and_true, cj_0, cj_1, cj_2, cj_3, cj_4, cj_5, cj_6, cj_7, cj_8, cj_9, cj_10, cj_11, cj_12, cj_13, cj_14, cj_15, cj_16, cj_19, cj_20, cj_23, cj_24, cj_26, cj_27, cj_28, cj_30, cj_31, cj_32, cj_35, cj_36, cj_37, cj_48, cj_49, cj_50, cj_51, cj_52, cj_57, cj_59, cj_60, cj_61, cj_73, cj_74, cj_75, cj_76, cj_77, cj_90, cj_97, cj_98, cj_99, cj_100, cj_109, cj_120, cj_122, cj_127, cj_150, cj_160, cj_179, cj_537, cj_547, cj_916, cj_9999, cj_1000000, cj_999999]
  refine ⟨_, _, _, _, rfl, ?_, rfl, rfl, rfl, ?_⟩
  · intro k hk
    rcases lt7c hk with rfl | rfl | rfl | rfl | rfl | rfl | rfl
    all_goals refine ⟨rfl, rfl, rfl, ?_⟩
    all_goals intro i hi
    all_goals exact cpy_at hi
  · intro i hi
    exact cpy_at hi
theorem x_remlt (N : Nat) {u : Nat} (hu : u < 8) (ws : Nat → Nat → Int32) (wt wn wc : Nat → Int32) (th ns ct : Int32) (sw : Nat → Int32) : fX1_remembers N (jI u) ws wt wn wc th ns ct sw = some (jI (u + 1), va_up ws u (va_cpy sw (ws u) 0 0 7), va_up wt u th, va_up wn u ns, va_up wc u ct) := by
  unfold fX1_remembers
  have hne : ¬ jI u = (8 : Int32) := by rw [cj_8, jI_eq (by omega) (by omega)]; omega
  rw [jn5_e, if_neg hne]
  simp only [x_takes2, bnd4_some]
  simp (disch := omega) only [grd_pos, grd_true, jI_le, jI_lt, jI_eq, jI_nat, jI_add, jI_mul, if_pos, if_neg, bnd1_some, bnd2_some, bnd3_some, bnd4_some, bnd5_some, bnd6_some, bnd7_some, nmd_e, true_and, and_true, cj_0, cj_1, cj_2, cj_3, cj_4, cj_5, cj_6, cj_7, cj_8, cj_9, cj_10, cj_11, cj_12, cj_13, cj_14, cj_15, cj_16, cj_19, cj_20, cj_23, cj_24, cj_26, cj_27, cj_28, cj_30, cj_31, cj_32, cj_35, cj_36, cj_37, cj_48, cj_49, cj_50, cj_51, cj_52, cj_57, cj_59, cj_60, cj_61, cj_73, cj_74, cj_75, cj_76, cj_77, cj_90, cj_97, cj_98, cj_99, cj_100, cj_109, cj_120, cj_122, cj_127, cj_150, cj_160, cj_179, cj_537, cj_547, cj_916, cj_9999, cj_1000000, cj_999999]
theorem rem_both {N : Nat} (hN : 1000 ≤ N) {row : Nat → Int32} {u : Int32} {ws : Nat → Nat → Int32} {wt wn wc : Nat → Int32} {th ns ct : Int32} {sw : Nat → Int32} {n d : Nat} (hn : n ≤ 7) (gs : GS n d 0 th ns ct sw row) (gu : GU n d u ws wt wn wc row) : ∃ u' ws' wt' wn' wc' row', fX1_remembers N u ws wt wn wc th ns ct sw = some (u', ws', wt', wn', wc') ∧ fX5_keepPast N row = some row' ∧ (∀ k, k < 98 → row' k = row k) ∧ (∀ k, 179 ≤ k → row' k = row k) ∧ GU n d u' ws' wt' wn' wc' row' := by
  obtain ⟨v, hv, e1, e2, e3⟩ := gu
  have hm := m_keepPast hN hv e2
  by_cases h8 : v = 8
  · subst h8
    rw [if_pos rfl] at hm
    obtain ⟨ws', wt', wn', wc', hx, hsh, f7, g7, c7, s7⟩ := x_rem8 N ws wt wn wc th ns ct sw
    rw [e1]
    refine ⟨_, _, _, _, _, _, hx, hm, ?_, ?_, ⟨8, by omega, rfl, ?_, ?_⟩⟩
    · intro k hk
      unfold keepT shR
      rw [upd_ne (by omega), cpR_lo (by omega), upd_ne (by omega), if_neg (by omega)]
    · intro k hk
      unfold keepT shR
      rw [upd_ne (by omega), cpR_hi (by omega), upd_ne (by omega), if_neg (by omega)]
    · exact upd_at _ _ _
    · intro k hk
      by_cases k7 : k = 7
      · subst k7
        rw [f7, g7, c7]
        refine GS_sh (b := 0) hn ?_ (fun i hi => s7 i (by omega)) gs
        intro j hj
        unfold keepT
        rw [upd_ne (by omega), cpR_in (by omega), upd_ne (by omega)]
        unfold shR
        rw [if_neg (by omega), Nat.zero_add]
      · obtain ⟨q1, q2, q3, q4⟩ := hsh k (by omega)
        rw [q1, q2, q3]
        refine GS_sh (b := 99 + 10 * (k + 1)) hn ?_ (fun i hi => q4 i (by omega)) (e3 (k + 1) (by omega))
        intro j hj
        unfold keepT
        rw [upd_ne (by omega), cpR_lo (by omega), upd_ne (by omega)]
        unfold shR
        rw [if_pos (by omega)]
        congr 1
        omega
  · rw [if_neg h8] at hm
    have hx := x_remlt N (by omega : v < 8) ws wt wn wc th ns ct sw
    rw [e1]
    refine ⟨_, _, _, _, _, _, hx, hm, ?_, ?_, ⟨v + 1, by omega, rfl, ?_, ?_⟩⟩
    · intro k hk
      unfold keepT
      rw [upd_ne (by omega), cpR_lo (by omega)]
    · intro k hk
      unfold keepT
      rw [upd_ne (by omega), cpR_hi (by omega)]
    · exact upd_at _ _ _
    · intro k hk
      by_cases k7 : k = v
      · subst k7
        rw [pUpAt, pUpAt, pUpAt, pUpAt]
        refine GS_sh (b := 0) hn ?_ (fun i hi => cpy_at (by omega)) gs
        intro j hj
        unfold keepT
        rw [upd_ne (by omega), cpR_in (by omega), Nat.zero_add]
      · rw [pUpNe k7, pUpNe k7, pUpNe k7, pUpNe k7]
        refine GS_c hn ?_ (e3 k (by omega))
        intro j h1 h2
        unfold keepT
        rw [upd_ne (by omega), cpR_lo (by omega)]
