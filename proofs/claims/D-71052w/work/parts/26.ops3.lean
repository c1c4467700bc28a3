/-! PLAIN LAW 7: forget, count, lane, one, aunt -/
theorem three {p : Int32} (h : inR p 0 2) : p = 0 ∨ p = 1 ∨ p = 2 := by
  obtain ⟨i, rfl, hi, hh⟩ := inR_nat h
  have h2 : i = 0 ∨ i = 1 ∨ i = 2 := by omega
  rcases h2 with rfl | rfl | rfl
  · exact Or.inl rfl
  · exact Or.inr (Or.inl rfl)
  · exact Or.inr (Or.inr rfl)
theorem GL_0 {c mul : Nat} {he ρ : Nat → Int32} (e : ρ c = 0) : GL c mul 0 he ρ := ⟨0, by omega, rfl, e, fun k hk => absurd hk (by omega)⟩
theorem c10 : ((1 : Int32) = 0) = False := one_eq_zero
theorem c20 : ((2 : Int32) = 0) = False := i32_ne (by decide)
theorem c21 : ((2 : Int32) = 1) = False := i32_ne (by decide)
theorem c12 : ((1 : Int32) = 2) = False := i32_ne (by decide)
theorem c02 : ((0 : Int32) = 2) = False := i32_ne (by decide)
theorem op_forget {N : Nat} (hN : 1000 ≤ N) {w : Int32} {m : Int32} {d : Int32} {h : Int32} {t : Int32} {q : Int32} {u : Int32} {pe : Nat → Option Nat} {ho : Nat → Int32} {au : Nat → Option Nat} {si : Nat → Int32} {he : Nat → Int32} {no : Nat → Int32} {ma : Nat → Int32} {th : Int32} {ns : Int32} {ct : Int32} {sw : Nat → Int32} {ws : Nat → Nat → Int32} {wt : Nat → Int32} {wn : Nat → Int32} {wc : Nat → Int32} {im : Nat → Option LT} {tx : Nat → Int32} {ty : Int32} {row kept words : Nat → Int32} (H : RR (w, m, d, h, t, q, u, pe, ho, au, si, he, no, ma, th, ns, ct, sw, ws, wt, wn, wc) im tx ty row kept words) (p1 : Int32) (rf : Nat → Int32) : ∃ (r : Int32) (h' : Int32) (t' : Int32) (q' : Int32) (rf' : Nat → Int32) (row' : Nat → Int32), fX0_forget N p1 h t q rf = some (r, h', t', q', rf') ∧ fX5_forget N p1 row rf = some (r, row', rf') ∧ RR (w, m, d, h', t', q', u, pe, ho, au, si, he, no, ma, th, ns, ct, sw, ws, wt, wn, wc) im tx ty row' kept words := by
  by_cases hb : inR p1 0 2
  · obtain ⟨⟨ga, gw, gh, gt, gq, gs, gu⟩, gi, gx, gW⟩ := H
    have h7 := ga.1.1
    have e35 : row 35 = h := by obtain ⟨h', _, e1, e2, _⟩ := gh; rw [e1, e2]
    have e48 : row 48 = t := by obtain ⟨h', _, e1, e2, _⟩ := gt; rw [e1, e2]
    have e73 : row 73 = q := by obtain ⟨h', _, e1, e2, _⟩ := gq; rw [e1, e2]
    have h01 : ∀ p, inR p 0 2 → fX0_in N p.toInt64 0 2 = some 1 := fun p hp => in0_0_2_t N hp
    have i0 : inR 0 0 2 := ⟨by decide, by decide⟩
    have i1 : inR 1 0 2 := ⟨by decide, by decide⟩
    have i2 : inR 2 0 2 := ⟨by decide, by decide⟩
    rcases three hb with e | e | e
    · have hx : fX0_forget N p1 h t q rf = some (h, 0, t, q, rf) := by
        rw [e]; unfold fX0_forget; simp only [bnd1_some, bnd2_some, bnd3_some, bnd4_some, bnd5_some, bnd6_some, bnd7_some, bnd8_some, bnd9_some, bnd10_some, bnd11_some, bnd12_some, one_eq_zero, if_true, if_false, x_bad, x_no, x_full, x_badAsk, x_refuses0, m_refuse_bad, m_refuse_no, m_refuse_full, m_badAs, g0_t, g0_f, grd_true, nmd_e, jn1_e, in0_0_2_t N i0, zero_eq_one, c02]
      have hm : fX5_forget N p1 row rf = some (h, upd row 35 0, rf) := by
        rw [e]; unfold fX5_forget; simp only [bnd1_some, bnd2_some, bnd3_some, bnd4_some, bnd5_some, bnd6_some, bnd7_some, bnd8_some, bnd9_some, bnd10_some, bnd11_some, bnd12_some, one_eq_zero, if_true, if_false, x_bad, x_no, x_full, x_badAsk, x_refuses0, m_refuse_bad, m_refuse_no, m_refuse_full, m_badAs, g0_t, g0_f, grd_true, nmd_e, jn1_e, in5_0_2_t N i0]; simp (disch := omega) only [grd_pos, grd_true, jI_le, jI_lt, jI_eq, jI_nat, jI_add, jI_mul, if_pos, if_neg, bnd1_some, bnd2_some, bnd3_some, bnd4_some, bnd5_some, bnd6_some, bnd7_some, nmd_e, true_and, and_true, cj_0, cj_1, cj_2, cj_3, cj_4, cj_5, cj_6, cj_7, cj_8, cj_9, cj_10, cj_11, cj_12, cj_13, cj_14, cj_15, cj_16, cj_19, cj_20, cj_23, cj_24, cj_26, cj_27, cj_28, cj_30, cj_31, cj_32, cj_35, cj_36, cj_37, cj_48, cj_49, cj_50, cj_51, cj_52, cj_57, cj_59, cj_60, cj_61, cj_73, cj_74, cj_75, cj_76, cj_77, cj_90, cj_97, cj_98, cj_99, cj_100, cj_109, cj_120, cj_122, cj_127, cj_150, cj_160, cj_179, cj_537, cj_547, cj_916, cj_9999, cj_1000000, cj_999999]; rw [e35]
      refine ⟨_, _, _, _, _, _, hx, hm, ⟨GA_c ?_ ga, GW_c ?_ gw, GL_0 (upd_at _ _ _), GL_c ?_ gt, GL_c ?_ gq, GSr h7 ?_ ?_ ?_ gs, GUr h7 ?_ ?_ ?_ gu⟩, RI_c ?_ gi, gx, gW⟩
      all_goals first | (intro k h1 h2; simp (disch := omega) only [upd_ne]; done) | (simp (disch := omega) only [upd_ne]; done)
    · have hx : fX0_forget N p1 h t q rf = some (t, h, 0, q, rf) := by
        rw [e]; unfold fX0_forget; simp only [bnd1_some, bnd2_some, bnd3_some, bnd4_some, bnd5_some, bnd6_some, bnd7_some, bnd8_some, bnd9_some, bnd10_some, bnd11_some, bnd12_some, one_eq_zero, if_true, if_false, x_bad, x_no, x_full, x_badAsk, x_refuses0, m_refuse_bad, m_refuse_no, m_refuse_full, m_badAs, g0_t, g0_f, grd_true, nmd_e, jn1_e, in0_0_2_t N i1, c10, c12]
      have hm : fX5_forget N p1 row rf = some (t, upd row 48 0, rf) := by
        rw [e]; unfold fX5_forget; simp only [bnd1_some, bnd2_some, bnd3_some, bnd4_some, bnd5_some, bnd6_some, bnd7_some, bnd8_some, bnd9_some, bnd10_some, bnd11_some, bnd12_some, one_eq_zero, if_true, if_false, x_bad, x_no, x_full, x_badAsk, x_refuses0, m_refuse_bad, m_refuse_no, m_refuse_full, m_badAs, g0_t, g0_f, grd_true, nmd_e, jn1_e, in5_0_2_t N i1]; simp (disch := omega) only [grd_pos, grd_true, jI_le, jI_lt, jI_eq, jI_nat, jI_add, jI_mul, if_pos, if_neg, bnd1_some, bnd2_some, bnd3_some, bnd4_some, bnd5_some, bnd6_some, bnd7_some, nmd_e, true_and, and_true, cj_0, cj_1, cj_2, cj_3, cj_4, cj_5, cj_6, cj_7, cj_8, cj_9, cj_10, cj_11, cj_12, cj_13, cj_14, cj_15, cj_16, cj_19, cj_20, cj_23, cj_24, cj_26, cj_27, cj_28, cj_30, cj_31, cj_32, cj_35, cj_36, cj_37, cj_48, cj_49, cj_50, cj_51, cj_52, cj_57, cj_59, cj_60, cj_61, cj_73, cj_74, cj_75, cj_76, cj_77, cj_90, cj_97, cj_98, cj_99, cj_100, cj_109, cj_120, cj_122, cj_127, cj_150, cj_160, cj_179, cj_537, cj_547, cj_916, cj_9999, cj_1000000, cj_999999]; rw [e48]
      refine ⟨_, _, _, _, _, _, hx, hm, ⟨GA_c ?_ ga, GW_c ?_ gw, GL_c ?_ gh, GL_0 (upd_at _ _ _), GL_c ?_ gq, GSr h7 ?_ ?_ ?_ gs, GUr h7 ?_ ?_ ?_ gu⟩, RI_c ?_ gi, gx, gW⟩
      all_goals first | (intro k h1 h2; simp (disch := omega) only [upd_ne]; done) | (simp (disch := omega) only [upd_ne]; done)
    · have hx : fX0_forget N p1 h t q rf = some (q, h, t, 0, rf) := by
        rw [e]; unfold fX0_forget; simp only [bnd1_some, bnd2_some, bnd3_some, bnd4_some, bnd5_some, bnd6_some, bnd7_some, bnd8_some, bnd9_some, bnd10_some, bnd11_some, bnd12_some, one_eq_zero, if_true, if_false, x_bad, x_no, x_full, x_badAsk, x_refuses0, m_refuse_bad, m_refuse_no, m_refuse_full, m_badAs, g0_t, g0_f, grd_true, nmd_e, jn1_e, in0_0_2_t N i2, c20, c21]
      have hm : fX5_forget N p1 row rf = some (q, upd row 73 0, rf) := by
        rw [e]; unfold fX5_forget; simp only [bnd1_some, bnd2_some, bnd3_some, bnd4_some, bnd5_some, bnd6_some, bnd7_some, bnd8_some, bnd9_some, bnd10_some, bnd11_some, bnd12_some, one_eq_zero, if_true, if_false, x_bad, x_no, x_full, x_badAsk, x_refuses0, m_refuse_bad, m_refuse_no, m_refuse_full, m_badAs, g0_t, g0_f, grd_true, nmd_e, jn1_e, in5_0_2_t N i2]; simp (disch := omega) only [grd_pos, grd_true, jI_le, jI_lt, jI_eq, jI_nat, jI_add, jI_mul, if_pos, if_neg, bnd1_some, bnd2_some, bnd3_some, bnd4_some, bnd5_some, bnd6_some, bnd7_some, nmd_e, true_and, and_true, cj_0, cj_1, cj_2, cj_3, cj_4, cj_5, cj_6, cj_7, cj_8, cj_9, cj_10, cj_11, cj_12, cj_13, cj_14, cj_15, cj_16, cj_19, cj_20, cj_23, cj_24, cj_26, cj_27, cj_28, cj_30, cj_31, cj_32, cj_35, cj_36, cj_37, cj_48, cj_49, cj_50, cj_51, cj_52, cj_57, cj_59, cj_60, cj_61, cj_73, cj_74, cj_75, cj_76, cj_77, cj_90, cj_97, cj_98, cj_99, cj_100, cj_109, cj_120, cj_122, cj_127, cj_150, cj_160, cj_179, cj_537, cj_547, cj_916, cj_9999, cj_1000000, cj_999999]; rw [e73]
      refine ⟨_, _, _, _, _, _, hx, hm, ⟨GA_c ?_ ga, GW_c ?_ gw, GL_c ?_ gh, GL_c ?_ gt, GL_0 (upd_at _ _ _), GSr h7 ?_ ?_ ?_ gs, GUr h7 ?_ ?_ ?_ gu⟩, RI_c ?_ gi, gx, gW⟩
      all_goals first | (intro k h1 h2; simp (disch := omega) only [upd_ne]; done) | (simp (disch := omega) only [upd_ne]; done)
  · exact ⟨_, _, _, _, _, _, (by unfold fX0_forget; simp only [bnd1_some, bnd2_some, bnd3_some, bnd4_some, bnd5_some, bnd6_some, bnd7_some, bnd8_some, bnd9_some, bnd10_some, bnd11_some, bnd12_some, one_eq_zero, if_true, if_false, x_bad, x_no, x_full, x_badAsk, x_refuses0, m_refuse_bad, m_refuse_no, m_refuse_full, m_badAs, g0_t, g0_f, grd_true, nmd_e, jn1_e, in0_0_2_f N hb] : fX0_forget N p1 h t q rf = some (-2, h, t, q, ref 0 rf)), (by unfold fX5_forget; simp only [bnd1_some, bnd2_some, bnd3_some, bnd4_some, bnd5_some, bnd6_some, bnd7_some, bnd8_some, bnd9_some, bnd10_some, bnd11_some, bnd12_some, one_eq_zero, if_true, if_false, x_bad, x_no, x_full, x_badAsk, x_refuses0, m_refuse_bad, m_refuse_no, m_refuse_full, m_badAs, g0_t, g0_f, grd_true, nmd_e, jn1_e, in5_0_2_f N hb] : fX5_forget N p1 row rf = some (-2, row, ref 0 rf)), H⟩
theorem pow4 {d s : Nat} (hd : d ≤ 4) (hs : s < 2 ^ d) : s < 16 := by
  have : 2 ^ d ≤ 2 ^ 4 := Nat.pow_le_pow_right (by omega) hd
  omega
theorem countOf_both {N : Nat} (hN : 1000 ≤ N) {w : Int32} {m : Int32} {d : Int32} {h : Int32} {t : Int32} {q : Int32} {u : Int32} {pe : Nat → Option Nat} {ho : Nat → Int32} {au : Nat → Option Nat} {si : Nat → Int32} {he : Nat → Int32} {no : Nat → Int32} {ma : Nat → Int32} {th : Int32} {ns : Int32} {ct : Int32} {sw : Nat → Int32} {ws : Nat → Nat → Int32} {wt : Nat → Int32} {wn : Nat → Int32} {wc : Nat → Int32} {ty : Int32} {row : Nat → Int32} (H : LR (w, m, d, h, t, q, u, pe, ho, au, si, he, no, ma, th, ns, ct, sw, ws, wt, wn, wc) row) : ∃ v : Int32 → Int32, ∀ p, fX0_countOf N p ty w m d h t q u th ns ct = some (v p) ∧ fX5_countOf N p ty row = some (v p) := by
  obtain ⟨ga, gw, gh, gt, gq, gs, gu⟩ := H
  obtain ⟨hW, ⟨em, ed, e3, e4, e5, e6⟩, okp, oka, h01⟩ := ga
  obtain ⟨h7, hn, h4, hd, hK, hA⟩ := hW
  have e35 : row 35 = h := by obtain ⟨h', _, e1, e2, _⟩ := gh; rw [e1, e2]
  have e48 : row 48 = t := by obtain ⟨h', _, e1, e2, _⟩ := gt; rw [e1, e2]
  have e73 : row 73 = q := by obtain ⟨h', _, e1, e2, _⟩ := gq; rw [e1, e2]
  have e98 : row 98 = u := by obtain ⟨h', _, e1, e2, _⟩ := gu; rw [e1, e2]
  obtain ⟨e7, e8, e9, ⟨s, hs, es⟩, hw⟩ := gs
  have e7 : row 7 = th := e7
  have e8 : row 8 = ns := e8
  have e9 : row 9 = ct := e9
  have hs := pow4 h4 hs
  refine ⟨fun p => if p = 0 then m else if p = 1 then d else if p = 2 then jI (pc s) else if p = 3 then ct else if p = 4 then ns else if p = 5 then w else if p = 6 then h else if p = 7 then t else if p = 8 then q else if p = 9 then u else ty, fun p => ⟨?_, ?_⟩⟩
  · unfold fX0_countOf
    rw [es, x_bitCount N hs, bnd1_some]
    repeat' refine ites (fun _ => ?_) (fun _ => ?_)
    all_goals rfl
  · unfold fX5_countOf
    rw [e7, es, m_bits (by omega) hs, bnd1_some, hn, hd, e8, e9, gw.1, e35, e48, e73, e98, em, ed]
    repeat' refine ites (fun _ => ?_) (fun _ => ?_)
    all_goals rfl
theorem op_count {N : Nat} (hN : 1000 ≤ N) {w : Int32} {m : Int32} {d : Int32} {h : Int32} {t : Int32} {q : Int32} {u : Int32} {pe : Nat → Option Nat} {ho : Nat → Int32} {au : Nat → Option Nat} {si : Nat → Int32} {he : Nat → Int32} {no : Nat → Int32} {ma : Nat → Int32} {th : Int32} {ns : Int32} {ct : Int32} {sw : Nat → Int32} {ws : Nat → Nat → Int32} {wt : Nat → Int32} {wn : Nat → Int32} {wc : Nat → Int32} {im : Nat → Option LT} {tx : Nat → Int32} {ty : Int32} {row kept words : Nat → Int32} (H : RR (w, m, d, h, t, q, u, pe, ho, au, si, he, no, ma, th, ns, ct, sw, ws, wt, wn, wc) im tx ty row kept words) (p1 : Int32) (rf : Nat → Int32) : ∃ (r : Int32) (rf' : Nat → Int32), fX0_count N p1 ty rf w m d h t q u th ns ct = some (r, rf') ∧ fX5_count N p1 ty rf row = some (r, rf') ∧ RR (w, m, d, h, t, q, u, pe, ho, au, si, he, no, ma, th, ns, ct, sw, ws, wt, wn, wc) im tx ty row kept words := by
  obtain ⟨v, hv⟩ := countOf_both hN (ty := ty) H.1
  by_cases hb : inR p1 0 10
  · exact ⟨_, _, (by unfold fX0_count; simp only [bnd1_some, bnd2_some, bnd3_some, bnd4_some, bnd5_some, bnd6_some, bnd7_some, bnd8_some, bnd9_some, bnd10_some, bnd11_some, bnd12_some, one_eq_zero, if_true, if_false, x_bad, x_no, x_full, x_badAsk, x_refuses0, m_refuse_bad, m_refuse_no, m_refuse_full, m_badAs, g0_t, g0_f, grd_true, nmd_e, jn1_e, in0_0_10_t N hb, (hv p1).1] : fX0_count N p1 ty rf w m d h t q u th ns ct = some (v p1, rf)), (by unfold fX5_count; simp only [bnd1_some, bnd2_some, bnd3_some, bnd4_some, bnd5_some, bnd6_some, bnd7_some, bnd8_some, bnd9_some, bnd10_some, bnd11_some, bnd12_some, one_eq_zero, if_true, if_false, x_bad, x_no, x_full, x_badAsk, x_refuses0, m_refuse_bad, m_refuse_no, m_refuse_full, m_badAs, g0_t, g0_f, grd_true, nmd_e, jn1_e, in5_0_10_t N hb, (hv p1).2] : fX5_count N p1 ty rf row = some (v p1, rf)), H⟩
  · exact ⟨_, _, (by unfold fX0_count; simp only [bnd1_some, bnd2_some, bnd3_some, bnd4_some, bnd5_some, bnd6_some, bnd7_some, bnd8_some, bnd9_some, bnd10_some, bnd11_some, bnd12_some, one_eq_zero, if_true, if_false, x_bad, x_no, x_full, x_badAsk, x_refuses0, m_refuse_bad, m_refuse_no, m_refuse_full, m_badAs, g0_t, g0_f, grd_true, nmd_e, jn1_e, in0_0_10_f N hb] : fX0_count N p1 ty rf w m d h t q u th ns ct = some (-2, ref 0 rf)), (by unfold fX5_count; simp only [bnd1_some, bnd2_some, bnd3_some, bnd4_some, bnd5_some, bnd6_some, bnd7_some, bnd8_some, bnd9_some, bnd10_some, bnd11_some, bnd12_some, one_eq_zero, if_true, if_false, x_bad, x_no, x_full, x_badAsk, x_refuses0, m_refuse_bad, m_refuse_no, m_refuse_full, m_badAs, g0_t, g0_f, grd_true, nmd_e, jn1_e, in5_0_10_f N hb] : fX5_count N p1 ty rf row = some (-2, ref 0 rf)), H⟩
theorem m_lay {N : Nat} (hN : 1000 ≤ N) (p : Int32) (row : Nat → Int32) : fX5_layHouses N p row = some (upd (fun k => if k < 179 then 0 else row k) 10 p) := by
  unfold fX5_layHouses
  refine (whl2_seq (fun k => jI k) (fun i => fun k => if k < i then 0 else row k) 179 ?_ N (by omega)).trans ?_
  · intro i hi rec
    simp (disch := omega) only [grd_pos, grd_true, jI_le, jI_lt, jI_eq, jI_nat, jI_add, jI_mul, if_pos, if_neg, bnd1_some, bnd2_some, bnd3_some, bnd4_some, bnd5_some, bnd6_some, bnd7_some, nmd_e, true_and, and_true, cj_0, cj_1, cj_2, cj_3, cj_4, cj_5, cj_6, cj_7, cj_8, cj_9, cj_10, cj_11, cj_12, cj_13, cj_14, cj_15, cj_16, cj_19, cj_20, cj_23, cj_24, cj_26, cj_27, cj_28, cj_30, cj_31, cj_32, cj_35, cj_36, cj_37, cj_48, cj_49, cj_50, cj_51, cj_52, cj_57, cj_59, cj_60, cj_61, cj_73, cj_74, cj_75, cj_76, cj_77, cj_90, cj_97, cj_98, cj_99, cj_100, cj_109, cj_120, cj_122, cj_127, cj_150, cj_160, cj_179, cj_537, cj_547, cj_916, cj_9999, cj_1000000, cj_999999]
    congr 1
    funext k
    unfold upd
    by_cases h1 : k = i
    · rw [if_pos h1, if_pos (by omega)]
    · rw [if_neg h1]
      show (if k < i then jI 0 else row k) = _
      by_cases h2 : k < i
      · rw [if_pos h2, if_pos (by omega)]
      · rw [if_neg h2, if_neg (by omega)]
  · simp (disch := omega) only [grd_pos, grd_true, jI_le, jI_lt, jI_eq, jI_nat, jI_add, jI_mul, if_pos, if_neg, bnd1_some, bnd2_some, bnd3_some, bnd4_some, bnd5_some, bnd6_some, bnd7_some, nmd_e, true_and, and_true, cj_0, cj_1, cj_2, cj_3, cj_4, cj_5, cj_6, cj_7, cj_8, cj_9, cj_10, cj_11, cj_12, cj_13, cj_14, cj_15, cj_16, cj_19, cj_20, cj_23, cj_24, cj_26, cj_27, cj_28, cj_30, cj_31, cj_32, cj_35, cj_36, cj_37, cj_48, cj_49, cj_50, cj_51, cj_52, cj_57, cj_59, cj_60, cj_61, cj_73, cj_74, cj_75, cj_76, cj_77, cj_90, cj_97, cj_98, cj_99, cj_100, cj_109, cj_120, cj_122, cj_127, cj_150, cj_160, cj_179, cj_537, cj_547, cj_916, cj_9999, cj_1000000, cj_999999]
theorem LR_begins {w : Int32} {ρ : Nat → Int32} (hw : ∃ w', 4 ≤ w' ∧ w' ≤ 30 ∧ w = jI w') (e : ∀ k, k < 179 → ρ k = if k = 10 then w else 0) {pe au : Nat → Option Nat} (okp : okk pe 7 = true) (oka : okk au 4 = true) (ho si he no ma sw : Nat → Int32) (ws : Nat → Nat → Int32) (wt wn wc : Nat → Int32) : LR (w, 0, 0, 0, 0, 0, 0, pe, ho, au, si, he, no, ma, 0, 0, 0, sw, ws, wt, wn, wc) ρ := by
  have e11 : ρ 11 = 0 := e 11 (by omega)
  have e26 : ρ 26 = 0 := e 26 (by omega)
  have n0 : rn ρ = 0 := by unfold rn; rw [e11]; decide
  have d0 : rd ρ = 0 := by unfold rd; rw [e26]; decide
  refine ⟨⟨⟨by omega, by rw [n0, e11]; rfl, by omega, by rw [d0, e26]; rfl, ?_, ?_⟩, ⟨by rw [n0]; rfl, by rw [d0]; rfl, ?_, ?_, ?_, ?_⟩, okp, oka, ?_⟩, ⟨e 10 (by omega), hw⟩, GL_0 (e 35 (by omega)), GL_0 (e 48 (by omega)), GL_0 (e 73 (by omega)), ⟨e 7 (by omega), e 8 (by omega), e 9 (by omega), ⟨0, by rw [d0]; decide, rfl⟩, ?_⟩, GU_0 (e 98 (by omega))⟩
  all_goals first | (intro k hk; rw [n0] at hk; omega) | (intro k hk; rw [d0] at hk; omega)
theorem op_lane {N : Nat} (hN : 1000 ≤ N) {w : Int32} {m : Int32} {d : Int32} {h : Int32} {t : Int32} {q : Int32} {u : Int32} {pe : Nat → Option Nat} {ho : Nat → Int32} {au : Nat → Option Nat} {si : Nat → Int32} {he : Nat → Int32} {no : Nat → Int32} {ma : Nat → Int32} {th : Int32} {ns : Int32} {ct : Int32} {sw : Nat → Int32} {ws : Nat → Nat → Int32} {wt : Nat → Int32} {wn : Nat → Int32} {wc : Nat → Int32} {im : Nat → Option LT} {tx : Nat → Int32} {ty : Int32} {row kept words : Nat → Int32} (H : RR (w, m, d, h, t, q, u, pe, ho, au, si, he, no, ma, th, ns, ct, sw, ws, wt, wn, wc) im tx ty row kept words) (p1 : Int32) (rf : Nat → Int32) : ∃ (r : Int32) (w' : Int32) (m' : Int32) (d' : Int32) (h' : Int32) (t' : Int32) (q' : Int32) (u' : Int32) (th' : Int32) (ns' : Int32) (ct' : Int32) (rf' : Nat → Int32) (row' : Nat → Int32), fX0_lane N p1 w m d h t q u th ns ct rf = some (r, w', m', d', h', t', q', u', th', ns', ct', rf') ∧ fX5_lane N p1 row rf = some (r, row', rf') ∧ RR (w', m', d', h', t', q', u', pe, ho, au, si, he, no, ma, th', ns', ct', sw, ws, wt, wn, wc) im tx ty row' kept words := by
  by_cases hb : inR p1 4 30
  · obtain ⟨⟨ga, gw, gh, gt, gq, gs, gu⟩, gi, gx, gW⟩ := H
    have hx : fX0_lane N p1 w m d h t q u th ns ct rf = some (m, p1, 0, 0, 0, 0, 0, 0, 0, 0, 0, rf) := by unfold fX0_lane; simp only [bnd1_some, bnd2_some, bnd3_some, bnd4_some, bnd5_some, bnd6_some, bnd7_some, bnd8_some, bnd9_some, bnd10_some, bnd11_some, bnd12_some, one_eq_zero, if_true, if_false, x_bad, x_no, x_full, x_badAsk, x_refuses0, m_refuse_bad, m_refuse_no, m_refuse_full, m_badAs, g0_t, g0_f, grd_true, nmd_e, jn1_e, x_isWide_t N hb]; rfl
    have hm : fX5_lane N p1 row rf = some (m, upd (fun k => if k < 179 then 0 else row k) 10 p1, rf) := by unfold fX5_lane; simp only [bnd1_some, bnd2_some, bnd3_some, bnd4_some, bnd5_some, bnd6_some, bnd7_some, bnd8_some, bnd9_some, bnd10_some, bnd11_some, bnd12_some, one_eq_zero, if_true, if_false, x_bad, x_no, x_full, x_badAsk, x_refuses0, m_refuse_bad, m_refuse_no, m_refuse_full, m_badAs, g0_t, g0_f, grd_true, nmd_e, jn1_e, in5_4_30_t N hb, m_lay hN]; rw [ga.1.2.1, ga.2.1.1]
    refine ⟨_, _, _, _, _, _, _, _, _, _, _, _, _, hx, hm, LR_begins ?_ ?_ ga.2.2.1 ga.2.2.2.1 _ _ _ _ _ _ _ _ _ _, RI_c ?_ gi, gx, gW⟩
    · obtain ⟨i, rfl, hi, hh⟩ := inR_nat (b := 30) ⟨by have := hb.1; omega, hb.2⟩
      have h4 := hb.1
      rw [jI_toInt hh] at h4
      exact ⟨i, by omega, by omega, rfl⟩
    · intro k hk
      show (if k = 10 then p1 else if k < 179 then 0 else row k) = _
      rw [if_pos hk]
    · intro k h1 h2
      show (if k = 10 then p1 else if k < 179 then 0 else row k) = _
      rw [if_neg (by omega), if_neg (by omega)]
  · exact ⟨_, _, _, _, _, _, _, _, _, _, _, _, _, (by unfold fX0_lane; simp only [bnd1_some, bnd2_some, bnd3_some, bnd4_some, bnd5_some, bnd6_some, bnd7_some, bnd8_some, bnd9_some, bnd10_some, bnd11_some, bnd12_some, one_eq_zero, if_true, if_false, x_bad, x_no, x_full, x_badAsk, x_refuses0, m_refuse_bad, m_refuse_no, m_refuse_full, m_badAs, g0_t, g0_f, grd_true, nmd_e, jn1_e, x_isWide_f N hb] : fX0_lane N p1 w m d h t q u th ns ct rf = some (-2, w, m, d, h, t, q, u, th, ns, ct, ref 0 rf)), (by unfold fX5_lane; simp only [bnd1_some, bnd2_some, bnd3_some, bnd4_some, bnd5_some, bnd6_some, bnd7_some, bnd8_some, bnd9_some, bnd10_some, bnd11_some, bnd12_some, one_eq_zero, if_true, if_false, x_bad, x_no, x_full, x_badAsk, x_refuses0, m_refuse_bad, m_refuse_no, m_refuse_full, m_badAs, g0_t, g0_f, grd_true, nmd_e, jn1_e, in5_4_30_f N hb] : fX5_lane N p1 row rf = some (-2, row, ref 0 rf)), H⟩
