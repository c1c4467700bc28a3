/-! PLAIN LAW 3: what sounds; both sides -/
def twS (x y w : Int32) : Int32 := if x < 1 then 0 else if y < 1 then 0 else if x + y < w then 0 else x + y - w + 1
def termS (row sw : Nat → Int32) (there w c but : Int32) (i j : Nat) : Int32 :=
  if row (19 + i) = 0 ∧ row (19 + j) = 1 ∧ ¬ jI i = but ∧ ¬ jI j = but then twS (leaningS row sw there i c) (leaningS row sw there j c) w else 0
def sumTo (f : Nat → Int32) : Nat → Int32
  | 0 => 0
  | m + 1 => sumTo f m + f m
def soundS (row sw : Nat → Int32) (there w c but : Int32) : Int32 := sumTo (fun k => termS row sw there w c but (k / rn row) (k % rn row)) (rn row * rn row)
theorem jI_lt1 (x : Int32) : (x < jI 1) = (x ≤ jI 0) := i32_lt_one_le x
theorem divmod_lt {k n : Nat} (h : k < n * n) : k / n < n ∧ k % n < n := by
  have hn : 0 < n := by
    rcases Nat.eq_zero_or_pos n with rfl | h0
    · simp at h
    · exact h0
  exact ⟨Nat.div_lt_of_lt_mul h, Nat.mod_lt _ hn⟩
theorem divmod_at {i j n : Nat} (h : j < n) : (n * i + j) / n = i ∧ (n * i + j) % n = j := by
  constructor
  · rw [Nat.mul_add_div (by omega), Nat.div_eq_of_lt h]; rfl
  · rw [Nat.mul_add_mod, Nat.mod_eq_of_lt h]
theorem x_soundBut {N : Nat} (hN : 100 ≤ N) {row : Nat → Int32} (hW : WS row) {many dampers : Int32} {people aunts : Nat → Option Nat} {houses sides : Nat → Int32} (hX : XS many dampers people aunts houses sides row) (sw : Nat → Int32) (there w c but : Int32) : fX1_soundBut N c w but many dampers houses people there sw sides aunts = some (soundS row sw there w c but) := by
  have hW' := hW
  have hX' := hX
  obtain ⟨h7, hn, h4, hd, hK, hA⟩ := hW
  obtain ⟨e1, e2, e3, e4, e5, e6⟩ := hX
  unfold fX1_soundBut
  refine (whl2_seq (fun i => jI i) (fun i => sumTo (fun k => termS row sw there w c but (k / rn row) (k % rn row)) (rn row * i)) (rn row) ?_ N (by omega)).trans ?_
  · intro i hi rec
    simp (disch := omega) only [grd_pos, grd_true, jI_le, jI_lt, jI_eq, jI_nat, jI_add, jI_mul, if_pos, if_neg, bnd1_some, bnd2_some, bnd3_some, bnd4_some, bnd5_some, bnd6_some, bnd7_some, nmd_e, true_and, and_true, cj_0, cj_1, cj_2, cj_3, cj_4, cj_5, cj_6, cj_7, cj_8, cj_9, cj_10, cj_11, cj_12, cj_13, cj_14, cj_15, cj_16, cj_19, cj_20, cj_23, cj_24, cj_26, cj_27, cj_28, cj_30, cj_31, cj_32, cj_35, cj_36, cj_37, cj_48, cj_49, cj_50, cj_51, cj_52, cj_57, cj_59, cj_60, cj_61, cj_73, cj_74, cj_75, cj_76, cj_77, cj_90, cj_97, cj_98, cj_99, cj_100, cj_109, cj_120, cj_122, cj_127, cj_150, cj_160, cj_179, cj_537, cj_547, cj_916, cj_9999, cj_1000000, cj_999999, e1]
    have hin : rn row * i + rn row = rn row * (i + 1) := rfl
    refine (whl2_seq (fun j => jI j) (fun j => sumTo (fun k => termS row sw there w c but (k / rn row) (k % rn row)) (rn row * i + j)) (rn row) ?_ N (by omega)).trans ?_
    · intro j hj rec2
      have hs : sumTo (fun k => termS row sw there w c but (k / rn row) (k % rn row)) (rn row * i + (j + 1)) = sumTo (fun k => termS row sw there w c but (k / rn row) (k % rn row)) (rn row * i + j) + termS row sw there w c but i j := by
        show sumTo (fun k => termS row sw there w c but (k / rn row) (k % rn row)) (rn row * i + j) + termS row sw there w c but ((rn row * i + j) / rn row) ((rn row * i + j) % rn row) = _
        rw [(divmod_at hj).1, (divmod_at hj).2]
      have z : ∀ x : Int32, x + jI 0 = x := fun x => Int32.add_zero x
      rw [hs]
      generalize sumTo (fun k => termS row sw there w c but (k / rn row) (k % rn row)) (rn row * i + j) = acc
      simp (disch := omega) only [grd_pos, grd_true, jI_le, jI_lt, jI_eq, jI_nat, jI_add, jI_mul, if_pos, if_neg, bnd1_some, bnd2_some, bnd3_some, bnd4_some, bnd5_some, bnd6_some, bnd7_some, nmd_e, true_and, and_true, cj_0, cj_1, cj_2, cj_3, cj_4, cj_5, cj_6, cj_7, cj_8, cj_9, cj_10, cj_11, cj_12, cj_13, cj_14, cj_15, cj_16, cj_19, cj_20, cj_23, cj_24, cj_26, cj_27, cj_28, cj_30, cj_31, cj_32, cj_35, cj_36, cj_37, cj_48, cj_49, cj_50, cj_51, cj_52, cj_57, cj_59, cj_60, cj_61, cj_73, cj_74, cj_75, cj_76, cj_77, cj_90, cj_97, cj_98, cj_99, cj_100, cj_109, cj_120, cj_122, cj_127, cj_150, cj_160, cj_179, cj_537, cj_547, cj_916, cj_9999, cj_1000000, cj_999999, e4 i hi, e4 j hj, x_leaning (by omega : 10 ≤ N) hW' hX' hi, x_leaning (by omega : 10 ≤ N) hW' hX' hj, termS, twS]
      by_cases h1 : row (19 + i) = jI 0
      · by_cases h2 : row (19 + j) = jI 1
        · by_cases h3 : jI i = but
          · simp only [h1, h2, h3, if_true, if_false, not_true_eq_false, and_false, false_and, z]
          · by_cases h4 : jI j = but
            · simp only [h1, h2, h3, h4, if_true, if_false, not_true_eq_false, and_false, false_and, z]
            · simp only [h1, h2, h3, h4, if_true, if_false, not_true_eq_false, not_false_eq_true, and_true, z]
              by_cases h5 : leaningS row sw there i c < jI 1
              · simp only [h5, if_true, z]
              · by_cases h6 : leaningS row sw there j c < jI 1
                · simp only [h5, h6, if_true, if_false, z]
                · by_cases h7 : leaningS row sw there i c + leaningS row sw there j c < w
                  · simp only [h5, h6, h7, if_true, if_false, z]
                  · simp only [h5, h6, h7, if_true, if_false, z]
        · simp only [h1, h2, if_true, if_false, and_false, false_and, z]
      · simp only [h1, if_false, false_and, z]
    · simp (disch := omega) only [grd_pos, grd_true, jI_le, jI_lt, jI_eq, jI_nat, jI_add, jI_mul, if_pos, if_neg, bnd1_some, bnd2_some, bnd3_some, bnd4_some, bnd5_some, bnd6_some, bnd7_some, nmd_e, true_and, and_true, cj_0, cj_1, cj_2, cj_3, cj_4, cj_5, cj_6, cj_7, cj_8, cj_9, cj_10, cj_11, cj_12, cj_13, cj_14, cj_15, cj_16, cj_19, cj_20, cj_23, cj_24, cj_26, cj_27, cj_28, cj_30, cj_31, cj_32, cj_35, cj_36, cj_37, cj_48, cj_49, cj_50, cj_51, cj_52, cj_57, cj_59, cj_60, cj_61, cj_73, cj_74, cj_75, cj_76, cj_77, cj_90, cj_97, cj_98, cj_99, cj_100, cj_109, cj_120, cj_122, cj_127, cj_150, cj_160, cj_179, cj_537, cj_547, cj_916, cj_9999, cj_1000000, cj_999999, e1, hin]
  · simp (disch := omega) only [grd_pos, grd_true, jI_le, jI_lt, jI_eq, jI_nat, jI_add, jI_mul, if_pos, if_neg, bnd1_some, bnd2_some, bnd3_some, bnd4_some, bnd5_some, bnd6_some, bnd7_some, nmd_e, true_and, and_true, cj_0, cj_1, cj_2, cj_3, cj_4, cj_5, cj_6, cj_7, cj_8, cj_9, cj_10, cj_11, cj_12, cj_13, cj_14, cj_15, cj_16, cj_19, cj_20, cj_23, cj_24, cj_26, cj_27, cj_28, cj_30, cj_31, cj_32, cj_35, cj_36, cj_37, cj_48, cj_49, cj_50, cj_51, cj_52, cj_57, cj_59, cj_60, cj_61, cj_73, cj_74, cj_75, cj_76, cj_77, cj_90, cj_97, cj_98, cj_99, cj_100, cj_109, cj_120, cj_122, cj_127, cj_150, cj_160, cj_179, cj_537, cj_547, cj_916, cj_9999, cj_1000000, cj_999999, e1]
    rfl
theorem x_sound {N : Nat} (hN : 100 ≤ N) {row : Nat → Int32} (hW : WS row) {many dampers : Int32} {people aunts : Nat → Option Nat} {houses sides : Nat → Int32} (hX : XS many dampers people aunts houses sides row) (sw : Nat → Int32) (there w c : Int32) : fX1_sound N c w many dampers houses people there sw sides aunts = some (soundS row sw there w c (-1)) := by
  unfold fX1_sound
  rw [x_soundBut hN hW hX, bnd1_some]
def leaC (row sw : Nat → Int32) (there c but : Int32) (old : Nat → Int32) (i : Nat) : Nat → Int32 := fun k => if k < i then (if jI k = but then 0 else leaningS row sw there k c) else old k
theorem leaC_upd (row sw : Nat → Int32) (there c but : Int32) (old : Nat → Int32) (i : Nat) : upd (leaC row sw there c but old i) i (if jI i = but then 0 else leaningS row sw there i c) = leaC row sw there c but old (i + 1) := by
  funext k
  unfold upd leaC
  by_cases h : k = i
  · subst h; simp only [if_true, Nat.lt_succ_self]
  · simp only [h, if_false]
    by_cases h2 : k < i
    · have h3 : k < i + 1 := by omega
      simp only [h2, h3, if_true]
    · have h3 : ¬ k < i + 1 := by omega
      simp only [h2, h3, if_false]
theorem leaC_at {row sw : Nat → Int32} {there c but : Int32} {old : Nat → Int32} {i k : Nat} (h : k < i) : leaC row sw there c but old i k = (if jI k = but then 0 else leaningS row sw there k c) := if_pos h
theorem m_soundBy {N : Nat} (hN : 100 ≤ N) {row : Nat → Int32} (hW : WS row) {b : Nat} (hb : b = 0 ∨ b = 537) (w c but : Int32) (old : Nat → Int32) : fX5_soundBy N (jI b) w c but row old = some (soundS row (fun i => row (b + i)) (row (b + 7)) w c but, leaC row (fun i => row (b + i)) (row (b + 7)) c but old (rn row)) := by
  have hW' := hW
  obtain ⟨h7, hn, h4, hd, hK, hA⟩ := hW
  have hnn : rn row * rn row ≤ 7 * 7 := Nat.mul_le_mul h7 h7
  unfold fX5_soundBy
  refine (whl2_seq (fun i => jI i) (fun i => leaC row (fun i => row (b + i)) (row (b + 7)) c but old i) (rn row) ?_ N (by omega)).trans ?_
  · intro i hi rec
    simp (disch := omega) only [grd_pos, grd_true, jI_le, jI_lt, jI_eq, jI_nat, jI_add, jI_mul, if_pos, if_neg, bnd1_some, bnd2_some, bnd3_some, bnd4_some, bnd5_some, bnd6_some, bnd7_some, nmd_e, true_and, and_true, cj_0, cj_1, cj_2, cj_3, cj_4, cj_5, cj_6, cj_7, cj_8, cj_9, cj_10, cj_11, cj_12, cj_13, cj_14, cj_15, cj_16, cj_19, cj_20, cj_23, cj_24, cj_26, cj_27, cj_28, cj_30, cj_31, cj_32, cj_35, cj_36, cj_37, cj_48, cj_49, cj_50, cj_51, cj_52, cj_57, cj_59, cj_60, cj_61, cj_73, cj_74, cj_75, cj_76, cj_77, cj_90, cj_97, cj_98, cj_99, cj_100, cj_109, cj_120, cj_122, cj_127, cj_150, cj_160, cj_179, cj_537, cj_547, cj_916, cj_9999, cj_1000000, cj_999999, hn, jn1_e, m_leaning (by omega : 10 ≤ N) hW' hb hi]
    rw [← leaC_upd]
    by_cases h3 : jI i = but
    · simp (disch := omega) only [grd_pos, grd_true, jI_le, jI_lt, jI_eq, jI_nat, jI_add, jI_mul, if_pos, if_neg, bnd1_some, bnd2_some, bnd3_some, bnd4_some, bnd5_some, bnd6_some, bnd7_some, nmd_e, true_and, and_true, cj_0, cj_1, cj_2, cj_3, cj_4, cj_5, cj_6, cj_7, cj_8, cj_9, cj_10, cj_11, cj_12, cj_13, cj_14, cj_15, cj_16, cj_19, cj_20, cj_23, cj_24, cj_26, cj_27, cj_28, cj_30, cj_31, cj_32, cj_35, cj_36, cj_37, cj_48, cj_49, cj_50, cj_51, cj_52, cj_57, cj_59, cj_60, cj_61, cj_73, cj_74, cj_75, cj_76, cj_77, cj_90, cj_97, cj_98, cj_99, cj_100, cj_109, cj_120, cj_122, cj_127, cj_150, cj_160, cj_179, cj_537, cj_547, cj_916, cj_9999, cj_1000000, cj_999999, h3, if_true]
    · simp (disch := omega) only [grd_pos, grd_true, jI_le, jI_lt, jI_eq, jI_nat, jI_add, jI_mul, if_pos, if_neg, bnd1_some, bnd2_some, bnd3_some, bnd4_some, bnd5_some, bnd6_some, bnd7_some, nmd_e, true_and, and_true, cj_0, cj_1, cj_2, cj_3, cj_4, cj_5, cj_6, cj_7, cj_8, cj_9, cj_10, cj_11, cj_12, cj_13, cj_14, cj_15, cj_16, cj_19, cj_20, cj_23, cj_24, cj_26, cj_27, cj_28, cj_30, cj_31, cj_32, cj_35, cj_36, cj_37, cj_48, cj_49, cj_50, cj_51, cj_52, cj_57, cj_59, cj_60, cj_61, cj_73, cj_74, cj_75, cj_76, cj_77, cj_90, cj_97, cj_98, cj_99, cj_100, cj_109, cj_120, cj_122, cj_127, cj_150, cj_160, cj_179, cj_537, cj_547, cj_916, cj_9999, cj_1000000, cj_999999, h3, if_false]
  · simp (disch := omega) only [grd_pos, grd_true, jI_le, jI_lt, jI_eq, jI_nat, jI_add, jI_mul, if_pos, if_neg, bnd1_some, bnd2_some, bnd3_some, bnd4_some, bnd5_some, bnd6_some, bnd7_some, nmd_e, true_and, and_true, cj_0, cj_1, cj_2, cj_3, cj_4, cj_5, cj_6, cj_7, cj_8, cj_9, cj_10, cj_11, cj_12, cj_13, cj_14, cj_15, cj_16, cj_19, cj_20, cj_23, cj_24, cj_26, cj_27, cj_28, cj_30, cj_31, cj_32, cj_35, cj_36, cj_37, cj_48, cj_49, cj_50, cj_51, cj_52, cj_57, cj_59, cj_60, cj_61, cj_73, cj_74, cj_75, cj_76, cj_77, cj_90, cj_97, cj_98, cj_99, cj_100, cj_109, cj_120, cj_122, cj_127, cj_150, cj_160, cj_179, cj_537, cj_547, cj_916, cj_9999, cj_1000000, cj_999999, hn]
    refine (whl2_seq (fun k => jI k) (fun m => sumTo (fun k => termS row (fun i => row (b + i)) (row (b + 7)) w c but (k / rn row) (k % rn row)) m) (rn row * rn row) ?_ N (by omega)).trans ?_
    · intro k hk rec
      obtain ⟨hi, hj⟩ := divmod_lt hk
      show _ = rec (jI (k + 1)) (sumTo _ k + termS row (fun i => row (b + i)) (row (b + 7)) w c but (k / rn row) (k % rn row))
      generalize sumTo (fun k => termS row (fun i => row (b + i)) (row (b + 7)) w c but (k / rn row) (k % rn row)) k = acc
      have z : ∀ x : Int32, x + jI 0 = x := fun x => Int32.add_zero x
      have hd := jI_div (a := k) (b := rn row) (by omega) (by omega)
      have hr := jI_rem (a := k) (b := rn row) (by omega) (by omega)
      have hne : (jI (rn row) = jI 0) = False := by rw [jI_eq (by omega) (by omega)]; exact propext ⟨fun h => by omega, fun h => h.elim⟩
      have z00 : jI 0 ≤ jI 0 := by rw [jI_le (by omega) (by omega)]; omega
      generalize k / rn row = i at *
      generalize k % rn row = j at *
      simp (disch := omega) only [grd_pos, grd_true, jI_le, jI_lt, jI_eq, jI_nat, jI_add, jI_mul, if_pos, if_neg, bnd1_some, bnd2_some, bnd3_some, bnd4_some, bnd5_some, bnd6_some, bnd7_some, nmd_e, true_and, and_true, cj_0, cj_1, cj_2, cj_3, cj_4, cj_5, cj_6, cj_7, cj_8, cj_9, cj_10, cj_11, cj_12, cj_13, cj_14, cj_15, cj_16, cj_19, cj_20, cj_23, cj_24, cj_26, cj_27, cj_28, cj_30, cj_31, cj_32, cj_35, cj_36, cj_37, cj_48, cj_49, cj_50, cj_51, cj_52, cj_57, cj_59, cj_60, cj_61, cj_73, cj_74, cj_75, cj_76, cj_77, cj_90, cj_97, cj_98, cj_99, cj_100, cj_109, cj_120, cj_122, cj_127, cj_150, cj_160, cj_179, cj_537, cj_547, cj_916, cj_9999, cj_1000000, cj_999999, hd, hr, hne, not_false_eq_true, jn1_e, leaC_at hi, leaC_at hj, termS, twS, jI_lt1]
      by_cases h1 : row (19 + i) = jI 0
      · by_cases h2 : row (19 + j) = jI 1
        · by_cases h3 : jI i = but
          · simp only [h1, h2, h3, z00, if_true, if_false, not_true_eq_false, and_false, false_and, z]
          · by_cases h4 : jI j = but
            · simp only [h1, h2, h3, h4, z00, if_true, if_false, not_true_eq_false, and_false, false_and, z, ite_self]
            · simp only [h1, h2, h3, h4, if_true, if_false, not_true_eq_false, not_false_eq_true, and_true, z]
              by_cases h5 : leaningS row (fun i => row (b + i)) (row (b + 7)) i c ≤ jI 0
              · simp only [h5, if_true, z]
              · by_cases h6 : leaningS row (fun i => row (b + i)) (row (b + 7)) j c ≤ jI 0
                · simp only [h5, h6, if_true, if_false, z]
                · by_cases h7 : leaningS row (fun i => row (b + i)) (row (b + 7)) i c + leaningS row (fun i => row (b + i)) (row (b + 7)) j c < w
                  · simp only [h5, h6, h7, if_true, if_false, z]
                  · simp only [h5, h6, h7, if_true, if_false, z]
        · simp only [h1, h2, if_true, if_false, and_false, false_and, z]
      · simp only [h1, if_true, if_false, false_and, z]
    · simp (disch := omega) only [grd_pos, grd_true, jI_le, jI_lt, jI_eq, jI_nat, jI_add, jI_mul, if_pos, if_neg, bnd1_some, bnd2_some, bnd3_some, bnd4_some, bnd5_some, bnd6_some, bnd7_some, nmd_e, true_and, and_true, cj_0, cj_1, cj_2, cj_3, cj_4, cj_5, cj_6, cj_7, cj_8, cj_9, cj_10, cj_11, cj_12, cj_13, cj_14, cj_15, cj_16, cj_19, cj_20, cj_23, cj_24, cj_26, cj_27, cj_28, cj_30, cj_31, cj_32, cj_35, cj_36, cj_37, cj_48, cj_49, cj_50, cj_51, cj_52, cj_57, cj_59, cj_60, cj_61, cj_73, cj_74, cj_75, cj_76, cj_77, cj_90, cj_97, cj_98, cj_99, cj_100, cj_109, cj_120, cj_122, cj_127, cj_150, cj_160, cj_179, cj_537, cj_547, cj_916, cj_9999, cj_1000000, cj_999999]
      rfl
theorem m_soundAt {N : Nat} (hN : 100 ≤ N) {row : Nat → Int32} (hW : WS row) {b : Nat} (hb : b = 0 ∨ b = 537) (c : Int32) (old : Nat → Int32) : fX5_soundAt N (jI b) c row old = some (soundS row (fun i => row (b + i)) (row (b + 7)) (row 10) c (-1), leaC row (fun i => row (b + i)) (row (b + 7)) c (-1) old (rn row)) := by
  unfold fX5_soundAt
  rw [m_soundBy hN hW hb, bnd2_some]
/-- bounds -/
def small (x : Int32) : Bool := decide (-12 ≤ x.toInt) && decide (x.toInt ≤ 12)
theorem small_of {x : Int32} (h : small x = true) : ∃ m, m < 13 ∧ (x = jI m ∨ x = -(jI m)) := by
  unfold small at h
  rw [Bool.and_eq_true, decide_eq_true_eq, decide_eq_true_eq] at h
  obtain ⟨h0, h1⟩ := h
  by_cases hp : 0 ≤ x.toInt
  · refine ⟨x.toInt.toNat, by omega, Or.inl ?_⟩
    apply Int32.toInt_inj.mp
    rw [jI_toInt (by omega)]; omega
  · refine ⟨(-x.toInt).toNat, by omega, Or.inr ?_⟩
    apply Int32.toInt_inj.mp
    rw [Int32.toInt_neg, jI_toInt (by omega), Int.bmod_eq_of_le] <;> omega
theorem small_lean : ∀ s, s < 10 → ∀ p ∈ [jI s, -(jI s), 0], (small p && small (if p ≤ 0 then p else p + 1) && small (p / 2) && small (3 * (p / 2)) && small 0) = true := by decide
theorem small_damp : ∀ m, m < 13 → ∀ x ∈ [jI m, -(jI m)], (small (dpS x) && small (dpS (dpS x)) && small (x / 2) && small 0 && small x) = true := by decide
theorem plS_mem (a c : Int32) : plS a c ∈ [a, -a, 0] := by
  unfold plS
  split
  · exact List.mem_cons_self
  · split
    · exact List.mem_cons_of_mem _ List.mem_cons_self
    · exact List.mem_cons_of_mem _ (List.mem_cons_of_mem _ List.mem_cons_self)
theorem small_ite {p : Prop} {i : Decidable p} {a b : Int32} (ha : small a = true) (hb : small b = true) : small (@ite _ p i a b) = true := by
  split
  · exact ha
  · exact hb
theorem leanS_small {k s : Nat} (hk : k < 6) (hs : s < 10) (c : Int32) : small (leanS k (jI s) c) = true := by
  have h1 := small_lean s hs _ (plS_mem (jI s) c)
  have h2 := small_lean s hs _ (plS_mem (jI s) (c + 1))
  simp only [Bool.and_eq_true] at h1 h2
  rcases pLt6 hk with rfl | rfl | rfl | rfl | rfl | rfl
  · simp only [leanS]; exact h1.1.1.1.1
  · simp only [leanS]; exact h1.1.1.1.2
  · simp only [leanS]; exact h1.1.1.2
  · simp only [leanS]; exact small_ite h1.2 h1.1.1.1.1
  · simp only [leanS]; exact h2.1.1.1.2
  · simp only [leanS]; exact h1.1.2
theorem dampS_small {k : Nat} {x : Int32} (hk : k < 6) (hx : small x = true) (c : Int32) : small (dampS k x c) = true := by
  obtain ⟨m, hm, hx⟩ := small_of hx
  have hm2 : x ∈ [jI m, -(jI m)] := by
    rcases hx with rfl | rfl
    · exact List.mem_cons_self
    · exact List.mem_cons_of_mem _ List.mem_cons_self
  have h1 := small_damp m hm x hm2
  simp only [Bool.and_eq_true] at h1
  obtain ⟨⟨⟨⟨a1, a2⟩, a3⟩, a4⟩, a5⟩ := h1
  rcases pLt6 hk with rfl | rfl | rfl | rfl | rfl | rfl
  · simp only [dampS]; exact a1
  · simp only [dampS]; exact small_ite a1 a3
  · simp only [dampS]; exact a2
  · simp only [dampS]; exact small_ite a1 a5
  · simp only [dampS]; exact small_ite a5 (small_ite a1 a5)
  · simp only [dampS]; exact small_ite a4 a2
theorem leanTo_small {A : Nat → Nat} {sd : Nat → Int32} {hi there c x : Int32} (hx : small x = true) : ∀ d, (∀ k, k < d → A k < 6) → small (leanTo A sd hi there c x d) = true := by
  intro d
  induction d with
  | zero => intro _; exact hx
  | succ d ih =>
    intro hA
    have i1 := ih (fun k hk => hA k (by omega))
    simp only [leanTo]
    exact small_ite (small_ite (dampS_small (hA d (by omega)) i1 c) i1) i1
theorem leaningS_small {row sw : Nat → Int32} {there c : Int32} {i : Nat} (hW : WS row) (hi : i < rn row) (hs : ∃ s, s < 10 ∧ sw i = jI s) : small (leaningS row sw there i c) = true := by
  obtain ⟨s, h10, hs⟩ := hs
  unfold leaningS
  rw [hs]
  exact leanTo_small (leanS_small (hW.2.2.2.2.1 i hi).1 h10 c) _ (fun k hk => (hW.2.2.2.2.2 k hk).1)
theorem small_pos {x : Int32} (h : small x = true) (h1 : ¬ x < 1) : ∃ m, m < 13 ∧ x = jI m := by
  rw [i32_lt_one] at h1
  unfold small at h
  rw [Bool.and_eq_true, decide_eq_true_eq, decide_eq_true_eq] at h
  refine ⟨x.toInt.toNat, by omega, ?_⟩
  apply Int32.toInt_inj.mp
  rw [jI_toInt (by omega)]; omega
theorem twS_le {x y : Int32} {w : Nat} (hx : small x = true) (hy : small y = true) (hw : w ≤ 30) : ∃ z, z ≤ 25 ∧ twS x y (jI w) = jI z := by
  unfold twS
  split
  · exact ⟨0, by omega, rfl⟩
  · rename_i h1
    split
    · exact ⟨0, by omega, rfl⟩
    · rename_i h2
      obtain ⟨a, ha, rfl⟩ := small_pos hx h1
      obtain ⟨b, hb, rfl⟩ := small_pos hy h2
      rw [jI_add]
      split
      · exact ⟨0, by omega, rfl⟩
      · rename_i h3
        rw [jI_lt (by omega) (by omega)] at h3
        rw [jI_sub (by omega), jI_1]
        exact ⟨_, by omega, rfl⟩
theorem sumTo_le {f : Nat → Int32} : ∀ m, (∀ k, k < m → ∃ z, z ≤ 25 ∧ f k = jI z) → ∃ z, z ≤ 25 * m ∧ sumTo f m = jI z := by
  intro m
  induction m with
  | zero => intro _; exact ⟨0, by omega, rfl⟩
  | succ m ih =>
    intro h
    obtain ⟨a, ha, ea⟩ := ih (fun k hk => h k (by omega))
    obtain ⟨b, hb, eb⟩ := h m (by omega)
    refine ⟨a + b, by omega, ?_⟩
    show sumTo f m + f m = _
    rw [ea, eb, jI_add]
def SwOk (row sw : Nat → Int32) : Prop := ∀ i, i < rn row → ∃ s, s < 10 ∧ sw i = jI s
theorem soundS_le {row sw : Nat → Int32} {there c but : Int32} {w : Nat} (hW : WS row) (hs : SwOk row sw) (hw : w ≤ 30) : ∃ z, z ≤ 1225 ∧ soundS row sw there (jI w) c but = jI z := by
  have hnn : rn row * rn row ≤ 7 * 7 := Nat.mul_le_mul hW.1 hW.1
  obtain ⟨z, hz, e⟩ := sumTo_le (f := fun k => termS row sw there (jI w) c but (k / rn row) (k % rn row)) (rn row * rn row) (by
    intro k hk
    obtain ⟨hi, hj⟩ := divmod_lt hk
    show ∃ z, z ≤ 25 ∧ termS row sw there (jI w) c but (k / rn row) (k % rn row) = jI z
    unfold termS
    split
    · exact twS_le (leaningS_small hW hi (hs _ hi)) (leaningS_small hW hj (hs _ hj)) hw
    · exact ⟨0, by omega, rfl⟩)
  exact ⟨z, by omega, e⟩
theorem leaningS_cong {row sw sw' : Nat → Int32} {there c : Int32} {i : Nat} (h : sw i = sw' i) : leaningS row sw there i c = leaningS row sw' there i c := by
  unfold leaningS; rw [h]
theorem sumTo_cong {f g : Nat → Int32} : ∀ m, (∀ k, k < m → f k = g k) → sumTo f m = sumTo g m := by
  intro m
  induction m with
  | zero => intro _; rfl
  | succ m ih =>
    intro h
    show sumTo f m + f m = sumTo g m + g m
    rw [ih (fun k hk => h k (by omega)), h m (by omega)]
theorem soundS_cong {row sw sw' : Nat → Int32} {there w c but : Int32} (h : ∀ i, i < rn row → sw i = sw' i) : soundS row sw there w c but = soundS row sw' there w c but := by
  unfold soundS
  apply sumTo_cong
  intro k hk
  obtain ⟨hi, hj⟩ := divmod_lt hk
  show termS _ _ _ _ _ _ _ _ = termS _ _ _ _ _ _ _ _
  unfold termS
  rw [leaningS_cong (h _ hi), leaningS_cong (h _ hj)]
