/-! PLAIN LAW 9: what may be undone -/
theorem jn5_e {T0 T1 T2 T3 T4 ρ : Type} (K : T0 → T1 → T2 → T3 → T4 → Option ρ) (F : (T0 → T1 → T2 → T3 → T4 → Option ρ) → Option ρ) : jn5 K F = F K := rfl
theorem GS_sh {ρ ρ' : Nat → Int32} {n d b b' : Nat} {th ns ct : Int32} {sw sw' : Nat → Int32} (hn : n ≤ 7) (e : ∀ j, j < 10 → ρ' (b' + j) = ρ (b + j)) (es : ∀ i, i < n → sw' i = sw i) (g : GS n d b th ns ct sw ρ) : GS n d b' th ns ct sw' ρ' := by
  obtain ⟨e7, e8, e9, hs, hw⟩ := g
  refine ⟨?_, ?_, ?_, hs, ?_⟩
  · rw [e 7 (by omega)]; exact e7
  · rw [e 8 (by omega)]; exact e8
  · rw [e 9 (by omega)]; exact e9
  · intro i hi; rw [es i hi, e i (by omega)]; exact hw i hi
def cpR (g : Nat → Int32) (b i : Nat) : Nat → Int32 := fun k => if b ≤ k ∧ k < b + i then g (k - b) else g k
theorem cpR_upd {g : Nat → Int32} {b i : Nat} (hb : i < b) : upd (cpR g b i) (b + i) (cpR g b i i) = cpR g b (i + 1) := by
  funext k
  unfold upd cpR
  by_cases h1 : k = b + i
  · rw [if_pos h1, if_neg (by omega), if_pos (by omega)]; congr 1; omega
  · rw [if_neg h1]
    by_cases h2 : b ≤ k ∧ k < b + i
    · rw [if_pos h2, if_pos (by omega)]
    · rw [if_neg h2, if_neg (by omega)]
theorem cpR_lo {g : Nat → Int32} {b i k : Nat} (h : k < b) : cpR g b i k = g k := if_neg (by omega)
theorem cpR_0 (g : Nat → Int32) (b : Nat) : cpR g b 0 = g := by
  funext k; unfold cpR; rw [if_neg (by omega)]
theorem cpR_hi {g : Nat → Int32} {b i k : Nat} (h : b + i ≤ k) : cpR g b i k = g k := if_neg (by omega)
theorem cpR_in {g : Nat → Int32} {b i j : Nat} (h : j < i) : cpR g b i (b + j) = g j := by
  unfold cpR; rw [if_pos (by omega)]; congr 1; omega
def shR (g : Nat → Int32) (i : Nat) : Nat → Int32 := fun k => if 99 ≤ k ∧ k < 99 + i then g (k + 10) else g k
theorem shR_upd {g : Nat → Int32} {i : Nat} : upd (shR g i) (99 + i) (shR g i (109 + i)) = shR g (i + 1) := by
  funext k
  unfold upd shR
  by_cases h1 : k = 99 + i
  · rw [if_pos h1, if_neg (by omega), if_pos (by omega)]; congr 1; omega
  · rw [if_neg h1]
    by_cases h2 : 99 ≤ k ∧ k < 99 + i
    · rw [if_pos h2, if_pos (by omega)]
    · rw [if_neg h2, if_neg (by omega)]
def keepT (g : Nat → Int32) (u : Nat) : Nat → Int32 := upd (cpR g (99 + 10 * u) 10) 98 (jI (u + 1))
theorem m_keepPast {N : Nat} (hN : 1000 ≤ N) {row : Nat → Int32} {u : Nat} (hu : u ≤ 8) (e : row 98 = jI u) : fX5_keepPast N row = some (if u = 8 then keepT (upd (shR row 70) 98 (jI 7)) 7 else keepT row u) := by
  have tail : ∀ (g : Nat → Int32) (u : Nat), u < 8 → g 98 = jI u → whl2 (fun (x_34 : Int32) (a_35 : Nat → Int32) rec_36 => if (10 : Int32) ≤ x_34 then some (upd a_35 98 ((a_35 98) + (1 : Int32))) else grd (¬ (x_34 < 0 ∨ 547 ≤ x_34.toNatClampNeg)) (grd (¬ ((((99 : Int32) + ((10 : Int32) * (a_35 98))) + x_34) < 0 ∨ 547 ≤ (((99 : Int32) + ((10 : Int32) * (a_35 98))) + x_34).toNatClampNeg)) (nmd (upd a_35 (((99 : Int32) + ((10 : Int32) * (a_35 98))) + x_34).toNatClampNeg (a_35 x_34.toNatClampNeg)) (fun f_43 => rec_36 (x_34 + (1 : Int32)) f_43)))) N (0 : Int32) g = some (keepT g u) := by
    intro g u hu eg
    have e98 : ∀ i, cpR g (99 + 10 * u) i 98 = jI u := fun i => by rw [cpR_lo (by omega), eg]
    have := whl2_seq (step := (fun (x_34 : Int32) (a_35 : Nat → Int32) rec_36 => if (10 : Int32) ≤ x_34 then some (upd a_35 98 ((a_35 98) + (1 : Int32))) else grd (¬ (x_34 < 0 ∨ 547 ≤ x_34.toNatClampNeg)) (grd (¬ ((((99 : Int32) + ((10 : Int32) * (a_35 98))) + x_34) < 0 ∨ 547 ≤ (((99 : Int32) + ((10 : Int32) * (a_35 98))) + x_34).toNatClampNeg)) (nmd (upd a_35 (((99 : Int32) + ((10 : Int32) * (a_35 98))) + x_34).toNatClampNeg (a_35 x_34.toNatClampNeg)) (fun f_43 => rec_36 (x_34 + (1 : Int32)) f_43))))) (fun i => jI i) (fun i => cpR g (99 + 10 * u) i) 10 ?_ N (by omega)
    · rw [cpR_0] at this
      refine this.trans ?_
      simp (disch := omega) only [grd_pos, grd_true, jI_le, jI_lt, jI_eq, jI_nat, jI_add, jI_mul, if_pos, if_neg, bnd1_some, bnd2_some, bnd3_some, bnd4_some, bnd5_some, bnd6_some, bnd7_some, nmd_e, true_and, and_true, cj_0, cj_1, cj_2, cj_3, cj_4, cj_5, cj_6, cj_7, cj_8, cj_9, cj_10, cj_11, cj_12, cj_13, cj_14, cj_15, cj_16, cj_19, cj_20, cj_23, cj_24, cj_26, cj_27, cj_28, cj_30, cj_31, cj_32, cj_35, cj_36, cj_37, cj_48, cj_49, cj_50, cj_51, cj_52, cj_57, cj_59, cj_60, cj_61, cj_73, cj_74, cj_75, cj_76, cj_77, cj_90, cj_97, cj_98, cj_99, cj_100, cj_109, cj_120, cj_122, cj_127, cj_150, cj_160, cj_179, cj_537, cj_547, cj_916, cj_9999, cj_1000000, cj_999999, e98]
      rfl
    · intro i hi rec
      simp (disch := omega) only [grd_pos, grd_true, jI_le, jI_lt, jI_eq, jI_nat, jI_add, jI_mul, if_pos, if_neg, bnd1_some, bnd2_some, bnd3_some, bnd4_some, bnd5_some, bnd6_some, bnd7_some, nmd_e, true_and, and_true, cj_0, cj_1, cj_2, cj_3, cj_4, cj_5, cj_6, cj_7, cj_8, cj_9, cj_10, cj_11, cj_12, cj_13, cj_14, cj_15, cj_16, cj_19, cj_20, cj_23, cj_24, cj_26, cj_27, cj_28, cj_30, cj_31, cj_32, cj_35, cj_36, cj_37, cj_48, cj_49, cj_50, cj_51, cj_52, cj_57, cj_59, cj_60, cj_61, cj_73, cj_74, cj_75, cj_76, cj_77, cj_90, cj_97, cj_98, cj_99, cj_100, cj_109, cj_120, cj_122, cj_127, cj_150, cj_160, cj_179, cj_537, cj_547, cj_916, cj_9999, cj_1000000, cj_999999, e98]
      rw [cpR_upd (by omega)]
  unfold fX5_keepPast
  rw [jn1_e]
  by_cases h8 : u = 8
  · subst h8
    rw [if_pos (show row 98 = (8 : Int32) from e), if_pos rfl]
    have := whl2_seq (step := (fun (x_53 : Int32) (a_54 : Nat → Int32) rec_55 => if (70 : Int32) ≤ x_53 then (fun (g_22 : Nat → Int32) => whl2 (fun (x_34 : Int32) (a_35 : Nat → Int32) rec_36 => if (10 : Int32) ≤ x_34 then some (upd a_35 98 ((a_35 98) + (1 : Int32))) else grd (¬ (x_34 < 0 ∨ 547 ≤ x_34.toNatClampNeg)) (grd (¬ ((((99 : Int32) + ((10 : Int32) * (a_35 98))) + x_34) < 0 ∨ 547 ≤ (((99 : Int32) + ((10 : Int32) * (a_35 98))) + x_34).toNatClampNeg)) (nmd (upd a_35 (((99 : Int32) + ((10 : Int32) * (a_35 98))) + x_34).toNatClampNeg (a_35 x_34.toNatClampNeg)) (fun f_43 => rec_36 (x_34 + (1 : Int32)) f_43)))) N (0 : Int32) g_22) (upd a_54 98 ((a_54 98) - (1 : Int32))) else grd (¬ (((109 : Int32) + x_53) < 0 ∨ 547 ≤ ((109 : Int32) + x_53).toNatClampNeg)) (grd (¬ (((99 : Int32) + x_53) < 0 ∨ 547 ≤ ((99 : Int32) + x_53).toNatClampNeg)) (nmd (upd a_54 ((99 : Int32) + x_53).toNatClampNeg (a_54 ((109 : Int32) + x_53).toNatClampNeg)) (fun f_62 => rec_55 (x_53 + (1 : Int32)) f_62))))) (fun i => jI i) (fun i => shR row i) 70 ?_ N (by omega)
    · have z : shR row 0 = row := by funext k; unfold shR; rw [if_neg (by omega)]
      rw [z] at this
      refine this.trans ?_
      have e98 : shR row 70 98 = jI 8 := by unfold shR; rw [if_neg (by omega), e]
      have h70 : (70 : Int32) ≤ jI 70 := by rw [show (70 : Int32) = jI 70 from rfl, jI_le (by omega) (by omega)]; omega
      rw [if_pos h70]
      show whl2 _ N (0 : Int32) (upd (shR row 70) 98 (shR row 70 98 - (1 : Int32))) = _
      rw [e98, cj_1, jI_sub (by omega)]
      exact tail _ 7 (by omega) (upd_at _ _ _)
    · intro i hi rec
      have h70 : ¬ (70 : Int32) ≤ jI i := by rw [show (70 : Int32) = jI 70 from rfl, jI_le (by omega) (by omega)]; omega
      rw [if_neg h70]
      simp (disch := omega) only [grd_pos, grd_true, jI_le, jI_lt, jI_eq, jI_nat, jI_add, jI_mul, if_pos, if_neg, bnd1_some, bnd2_some, bnd3_some, bnd4_some, bnd5_some, bnd6_some, bnd7_some, nmd_e, true_and, and_true, cj_0, cj_1, cj_2, cj_3, cj_4, cj_5, cj_6, cj_7, cj_8, cj_9, cj_10, cj_11, cj_12, cj_13, cj_14, cj_15, cj_16, cj_19, cj_20, cj_23, cj_24, cj_26, cj_27, cj_28, cj_30, cj_31, cj_32, cj_35, cj_36, cj_37, cj_48, cj_49, cj_50, cj_51, cj_52, cj_57, cj_59, cj_60, cj_61, cj_73, cj_74, cj_75, cj_76, cj_77, cj_90, cj_97, cj_98, cj_99, cj_100, cj_109, cj_120, cj_122, cj_127, cj_150, cj_160, cj_179, cj_537, cj_547, cj_916, cj_9999, cj_1000000, cj_999999]
      rw [shR_upd]
  · have hne : ¬ row 98 = (8 : Int32) := by
      rw [e, cj_8, jI_eq (by omega) (by omega)]; exact h8
    rw [if_neg hne, if_neg h8]
    exact tail row u (by omega) e
