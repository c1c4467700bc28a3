/-! PLAIN LAW 8: one more, an aunt comes -/
theorem okk_iff {pk : Nat → Option Nat} {n : Nat} : okk pk n = true ↔ ∀ i, i < n → ∀ k, pk i = some k → k < 6 := by
  constructor
  · intro h i hi k hk; exact okk_at h hi hk
  · intro h
    unfold okk
    rw [List.all_eq_true]
    intro i hi
    rw [List.mem_range] at hi
    cases e : pk i with
    | none => rfl
    | some k => exact decide_eq_true (h i hi k e)
theorem okk_put {pk : Nat → Option Nat} {n j k : Nat} (h : okk pk n = true) (hk : k < 6) : okk (va_up pk j (some k)) n = true := by
  rw [okk_iff] at h ⊢
  intro i hi k2 e
  unfold va_up at e
  by_cases hij : i = j
  · rw [if_pos hij] at e; cases e; exact hk
  · rw [if_neg hij] at e; exact h i hi k2 e
theorem pUpAt {α : Type} (f : Nat → α) (k : Nat) (v : α) : va_up f k v k = v := if_pos rfl
theorem pUpNe {α : Type} {f : Nat → α} {k j : Nat} {v : α} (h : ¬ j = k) : va_up f k v j = f j := if_neg h
theorem rn_eq {ρ : Nat → Int32} {n : Nat} (h : n < 1000) (e : ρ 11 = jI n) : rn ρ = n := by unfold rn; rw [e, jI_nat (by omega)]
theorem rd_eq {ρ : Nat → Int32} {n : Nat} (h : n < 1000) (e : ρ 26 = jI n) : rd ρ = n := by unfold rd; rw [e, jI_nat (by omega)]
theorem LR_adds {w : Int32} {m : Int32} {d : Int32} {h : Int32} {t : Int32} {q : Int32} {u : Int32} {pe : Nat → Option Nat} {ho : Nat → Int32} {au : Nat → Option Nat} {si : Nat → Int32} {he : Nat → Int32} {no : Nat → Int32} {ma : Nat → Int32} {th : Int32} {ns : Int32} {ct : Int32} {sw : Nat → Int32} {ws : Nat → Nat → Int32} {wt : Nat → Int32} {wn : Nat → Int32} {wc : Nat → Int32} {ρ ρ' : Nat → Int32} (H : LR (w, m, d, h, t, q, u, pe, ho, au, si, he, no, ma, th, ns, ct, sw, ws, wt, wn, wc) ρ) {n k hs a : Nat} (en : rn ρ = n) (hn : n < 7) (hk : k < 6) (hh : hs < 2) (ha : a < 10) (e11 : ρ' 11 = jI (n + 1)) (e12 : ρ' (12 + n) = jI k) (e19 : ρ' (19 + n) = jI hs) (e0 : ρ' n = jI a) (e98 : ρ' 98 = 0) (ef : ∀ j, j < 179 → ¬ j = 11 → ¬ j = 12 + n → ¬ j = 19 + n → ¬ j = n → ¬ j = 98 → ρ' j = ρ j) : LR (w, jI (n + 1), d, h, t, q, 0, va_up pe n (some k), upd ho n (jI hs), au, si, he, no, ma, th, ns, ct, upd sw n (jI a), ws, wt, wn, wc) ρ' := by
  obtain ⟨ga, gw, gh, gt, gq, gs, gu⟩ := H
  obtain ⟨⟨h7, hn1, h4, hd, hK, hA⟩, ⟨em, ed, e3, e4, e5, e6⟩, okp, oka, h01⟩ := ga
  rw [en] at hK e3 e4 h01 gs
  have n' : rn ρ' = n + 1 := rn_eq (by omega) e11
  have e26 : ρ' 26 = ρ 26 := ef 26 (by omega) (by omega) (by omega) (by omega) (by omega) (by omega)
  have d' : rd ρ' = rd ρ := rd_c e26
  have cases : ∀ i, i < n + 1 → i < n ∨ i = n := fun i hi => by omega
  refine ⟨⟨⟨by omega, by rw [n', e11], by omega, by rw [d', e26, hd], ?_, ?_⟩, ⟨by rw [n'], by rw [d', ed], ?_, ?_, ?_, ?_⟩, okk_put okp hk, oka, ?_⟩, GW_c (ef 10 (by omega) (by omega) (by omega) (by omega) (by omega) (by omega)) gw, GL_c ?_ gh, GL_c ?_ gt, GL_c ?_ gq, ?_, GU_0 e98⟩
  · rw [n']; intro i hi
    unfold rK
    rcases cases i hi with g | rfl
    · rw [ef (12 + i) (by omega) (by omega) (by omega) (by omega) (by omega) (by omega)]; exact hK i g
    · rw [e12, jI_nat (by omega)]; exact ⟨hk, rfl⟩
  · rw [d']; intro i hi
    unfold rA
    rw [ef (27 + i) (by omega) (by omega) (by omega) (by omega) (by omega) (by omega)]; exact hA i hi
  · rw [n']; intro i hi
    unfold rK
    rcases cases i hi with g | rfl
    · rw [ef (12 + i) (by omega) (by omega) (by omega) (by omega) (by omega) (by omega), pUpNe (by omega)]; exact e3 i g
    · rw [e12, jI_nat (by omega), pUpAt]
  · rw [n']; intro i hi
    rcases cases i hi with g | rfl
    · rw [ef (19 + i) (by omega) (by omega) (by omega) (by omega) (by omega) (by omega), upd_ne (by omega)]; exact e4 i g
    · rw [e19, upd_at]
  · rw [d']; intro i hi
    unfold rA
    rw [ef (27 + i) (by omega) (by omega) (by omega) (by omega) (by omega) (by omega)]; exact e5 i hi
  · rw [d']; intro i hi
    rw [ef (31 + i) (by omega) (by omega) (by omega) (by omega) (by omega) (by omega)]; exact e6 i hi
  · rw [n']; intro i hi
    rcases cases i hi with g | rfl
    · rw [ef (19 + i) (by omega) (by omega) (by omega) (by omega) (by omega) (by omega)]; exact h01 i g
    · rw [e19]
      have : hs = 0 ∨ hs = 1 := by omega
      rcases this with rfl | rfl
      · exact Or.inl rfl
      · exact Or.inr rfl
  · intro j h1 h2; exact ef j (by omega) (by omega) (by omega) (by omega) (by omega) (by omega)
  · intro j h1 h2; exact ef j (by omega) (by omega) (by omega) (by omega) (by omega) (by omega)
  · intro j h1 h2; exact ef j (by omega) (by omega) (by omega) (by omega) (by omega) (by omega)
  · rw [n', d']
    obtain ⟨e7, e8, e9, hs2, hw⟩ := gs
    refine ⟨?_, ?_, ?_, hs2, ?_⟩
    · rw [ef _ (by omega) (by omega) (by omega) (by omega) (by omega) (by omega)]; exact e7
    · rw [ef _ (by omega) (by omega) (by omega) (by omega) (by omega) (by omega)]; exact e8
    · rw [ef _ (by omega) (by omega) (by omega) (by omega) (by omega) (by omega)]; exact e9
    · intro i hi
      rcases cases i hi with g | rfl
      · rw [ef (0 + i) (by omega) (by omega) (by omega) (by omega) (by omega) (by omega), upd_ne (by omega)]; exact hw i g
      · rw [Nat.zero_add, e0, upd_at]; exact ⟨rfl, a, ha, rfl⟩
theorem two32 {p : Int32} (h : inR p 0 1) : ∃ s, s < 2 ∧ p = jI s := by
  obtain ⟨i, rfl, hi, hh⟩ := inR_nat h
  exact ⟨i, by omega, rfl⟩
theorem inR_lt {p : Int32} {b : Nat} (h : inR p 0 ((b : Int) - 1)) : ∃ s, s < b ∧ p = jI s := by
  obtain ⟨i, rfl, hi, hh⟩ := inR_nat h
  exact ⟨i, by omega, rfl⟩
def rowAdds (row : Nat → Int32) (n : Nat) (k hs a : Int32) : Nat → Int32 := upd (upd (upd (upd (upd row (12 + n) k) (19 + n) hs) n a) 11 (jI (n + 1))) 98 0
theorem m_addOne (N : Nat) {row : Nat → Int32} {n : Nat} (hn : row 11 = jI n) (h7 : n < 7) (k hs a : Int32) : fX5_addOne N k hs a row = some (rowAdds row n k hs a) := by
  unfold fX5_addOne rowAdds
  simp (disch := omega) only [grd_pos, grd_true, jI_le, jI_lt, jI_eq, jI_nat, jI_add, jI_mul, if_pos, if_neg, bnd1_some, bnd2_some, bnd3_some, bnd4_some, bnd5_some, bnd6_some, bnd7_some, nmd_e, true_and, and_true, cj_0, cj_1, cj_2, cj_3, cj_4, cj_5, cj_6, cj_7, cj_8, cj_9, cj_10, cj_11, cj_12, cj_13, cj_14, cj_15, cj_16, cj_19, cj_20, cj_23, cj_24, cj_26, cj_27, cj_28, cj_30, cj_31, cj_32, cj_35, cj_36, cj_37, cj_48, cj_49, cj_50, cj_51, cj_52, cj_57, cj_59, cj_60, cj_61, cj_73, cj_74, cj_75, cj_76, cj_77, cj_90, cj_97, cj_98, cj_99, cj_100, cj_109, cj_120, cj_122, cj_127, cj_150, cj_160, cj_179, cj_537, cj_547, cj_916, cj_9999, cj_1000000, cj_999999, hn, upd_ne, upd_eq, Nat.zero_add]
theorem x_adds (N : Nat) {n k : Nat} (h7 : n < 7) (hk : k < 6) (hs a : Int32) (pe : Nat → Option Nat) (ho sw : Nat → Int32) : fX1_adds N (jI k) hs a (jI n) pe ho sw = some (jI (n + 1), 0, va_up pe n (some k), upd ho n hs, upd sw n a) := by
  unfold fX1_adds
  simp (disch := omega) only [grd_pos, grd_true, jI_le, jI_lt, jI_eq, jI_nat, jI_add, jI_mul, if_pos, if_neg, bnd1_some, bnd2_some, bnd3_some, bnd4_some, bnd5_some, bnd6_some, bnd7_some, nmd_e, true_and, and_true, cj_0, cj_1, cj_2, cj_3, cj_4, cj_5, cj_6, cj_7, cj_8, cj_9, cj_10, cj_11, cj_12, cj_13, cj_14, cj_15, cj_16, cj_19, cj_20, cj_23, cj_24, cj_26, cj_27, cj_28, cj_30, cj_31, cj_32, cj_35, cj_36, cj_37, cj_48, cj_49, cj_50, cj_51, cj_52, cj_57, cj_59, cj_60, cj_61, cj_73, cj_74, cj_75, cj_76, cj_77, cj_90, cj_97, cj_98, cj_99, cj_100, cj_109, cj_120, cj_122, cj_127, cj_150, cj_160, cj_179, cj_537, cj_547, cj_916, cj_9999, cj_1000000, cj_999999]
theorem LR_rowAdds {w : Int32} {m : Int32} {d : Int32} {h : Int32} {t : Int32} {q : Int32} {u : Int32} {pe : Nat → Option Nat} {ho : Nat → Int32} {au : Nat → Option Nat} {si : Nat → Int32} {he : Nat → Int32} {no : Nat → Int32} {ma : Nat → Int32} {th : Int32} {ns : Int32} {ct : Int32} {sw : Nat → Int32} {ws : Nat → Nat → Int32} {wt : Nat → Int32} {wn : Nat → Int32} {wc : Nat → Int32} {row : Nat → Int32} (H : LR (w, m, d, h, t, q, u, pe, ho, au, si, he, no, ma, th, ns, ct, sw, ws, wt, wn, wc) row) {n k hs a : Nat} (en : rn row = n) (hn : n < 7) (hk : k < 6) (hh : hs < 2) (ha : a < 10) : LR (w, jI (n + 1), d, h, t, q, 0, va_up pe n (some k), upd ho n (jI hs), au, si, he, no, ma, th, ns, ct, upd sw n (jI a), ws, wt, wn, wc) (rowAdds row n (jI k) (jI hs) (jI a)) := by
  refine LR_adds H en hn hk hh ha ?_ ?_ ?_ ?_ ?_ ?_
  all_goals unfold rowAdds
  all_goals first | (simp (disch := omega) only [upd_ne, upd_eq]; done) | skip
  intro j h1 h2 h3 h4 h5 h6
  simp (disch := omega) only [upd_ne]
theorem op_one {N : Nat} (hN : 1000 ≤ N) {w : Int32} {m : Int32} {d : Int32} {h : Int32} {t : Int32} {q : Int32} {u : Int32} {pe : Nat → Option Nat} {ho : Nat → Int32} {au : Nat → Option Nat} {si : Nat → Int32} {he : Nat → Int32} {no : Nat → Int32} {ma : Nat → Int32} {th : Int32} {ns : Int32} {ct : Int32} {sw : Nat → Int32} {ws : Nat → Nat → Int32} {wt : Nat → Int32} {wn : Nat → Int32} {wc : Nat → Int32} {im : Nat → Option LT} {tx : Nat → Int32} {ty : Int32} {row kept words : Nat → Int32} (H : RR (w, m, d, h, t, q, u, pe, ho, au, si, he, no, ma, th, ns, ct, sw, ws, wt, wn, wc) im tx ty row kept words) (p1 : Int32) (p2 : Int32) (p3 : Int32) (rf : Nat → Int32) : ∃ (r : Int32) (rf' : Nat → Int32) (m' : Int32) (u' : Int32) (pe' : Nat → Option Nat) (ho' : Nat → Int32) (sw' : Nat → Int32) (row' : Nat → Int32), fX0_one N p1 p2 p3 rf m u pe ho sw = some (r, rf', m', u', pe', ho', sw') ∧ fX5_one N p1 p2 p3 rf row = some (r, rf', row') ∧ RR (w, m', d, h, t, q, u', pe', ho', au, si, he, no, ma, th, ns, ct, sw', ws, wt, wn, wc) im tx ty row' kept words := by
  have H' := H
  obtain ⟨⟨ga, gw, gh, gt, gq, gs, gu⟩, gi, gx, gW⟩ := H'
  have ga' := ga
  obtain ⟨hW, hX, okp, oka, h01⟩ := ga'
  have hX' := hX
  obtain ⟨em, ed, e3, e4, e5, e6⟩ := hX'
  have hW' := hW
  obtain ⟨h7, hn, h4, hd, hK, hA⟩ := hW'
  have hn1 : rn row < 1000 := by omega
  have hd1 : rd row < 1000 := by omega
  by_cases b1 : inR p1 0 5
  · by_cases b2 : inR p2 0 1
    · by_cases b3 : inR p3 0 9
      · have hf5 : (row 11 = 7) = (m = 7) := by rw [hn, em]
        by_cases hf : m = 7
        · exact ⟨_, _, _, _, _, _, _, _, (by unfold fX0_one; simp only [bnd1_some, bnd2_some, bnd3_some, bnd4_some, bnd5_some, bnd6_some, bnd7_some, bnd8_some, bnd9_some, bnd10_some, bnd11_some, bnd12_some, one_eq_zero, if_true, if_false, x_bad, x_no, x_full, x_badAsk, x_refuses0, m_refuse_bad, m_refuse_no, m_refuse_full, m_badAs, g0_t, g0_f, grd_true, nmd_e, jn1_e, x_isKind_t N b1, x_isHouse_t N b2, x_isSwing_t N b3, eq_true hf] : fX0_one N p1 p2 p3 rf m u pe ho sw = some (-4, ref 2 rf, m, u, pe, ho, sw)), (by unfold fX5_one; simp only [bnd1_some, bnd2_some, bnd3_some, bnd4_some, bnd5_some, bnd6_some, bnd7_some, bnd8_some, bnd9_some, bnd10_some, bnd11_some, bnd12_some, one_eq_zero, if_true, if_false, x_bad, x_no, x_full, x_badAsk, x_refuses0, m_refuse_bad, m_refuse_no, m_refuse_full, m_badAs, g0_t, g0_f, grd_true, nmd_e, jn1_e, in5_0_5_t N b1, in5_0_1_t N b2, in5_0_9_t N b3, hf5, eq_true hf] : fX5_one N p1 p2 p3 rf row = some (-4, ref 2 rf, row)), H⟩
        · obtain ⟨k, hk, ek⟩ := inR_lt (b := 6) b1
          obtain ⟨s, hs, es⟩ := inR_lt (b := 2) b2
          obtain ⟨a, ha, ea⟩ := inR_lt (b := 10) b3
          have n7 : rn row < 7 := by
            rcases Nat.lt_or_ge (rn row) 7 with g | g
            · exact g
            · exfalso; apply hf; rw [em, (by omega : rn row = 7)]; rfl
          have hx : fX0_one N p1 p2 p3 rf m u pe ho sw = some (jI (rn row), rf, jI (rn row + 1), 0, va_up pe (rn row) (some k), upd ho (rn row) (jI s), upd sw (rn row) (jI a)) := by
            unfold fX0_one; simp only [bnd1_some, bnd2_some, bnd3_some, bnd4_some, bnd5_some, bnd6_some, bnd7_some, bnd8_some, bnd9_some, bnd10_some, bnd11_some, bnd12_some, one_eq_zero, if_true, if_false, x_bad, x_no, x_full, x_badAsk, x_refuses0, m_refuse_bad, m_refuse_no, m_refuse_full, m_badAs, g0_t, g0_f, grd_true, nmd_e, jn1_e, x_isKind_t N b1, x_isHouse_t N b2, x_isSwing_t N b3, hf]
            rw [ek, es, ea, em, x_adds N n7 hk]
            simp only [bnd1_some, bnd2_some, bnd3_some, bnd4_some, bnd5_some, bnd6_some, bnd7_some, bnd8_some, bnd9_some, bnd10_some, bnd11_some, bnd12_some, one_eq_zero, if_true, if_false, x_bad, x_no, x_full, x_badAsk, x_refuses0, m_refuse_bad, m_refuse_no, m_refuse_full, m_badAs, g0_t, g0_f, grd_true, nmd_e, jn1_e]
            rw [cj_1, jI_sub (by omega)]; rfl
          have hm : fX5_one N p1 p2 p3 rf row = some (jI (rn row), rf, rowAdds row (rn row) (jI k) (jI s) (jI a)) := by
            unfold fX5_one; simp only [bnd1_some, bnd2_some, bnd3_some, bnd4_some, bnd5_some, bnd6_some, bnd7_some, bnd8_some, bnd9_some, bnd10_some, bnd11_some, bnd12_some, one_eq_zero, if_true, if_false, x_bad, x_no, x_full, x_badAsk, x_refuses0, m_refuse_bad, m_refuse_no, m_refuse_full, m_badAs, g0_t, g0_f, grd_true, nmd_e, jn1_e, in5_0_5_t N b1, in5_0_1_t N b2, in5_0_9_t N b3, hf5, hf]
            rw [ek, es, ea, m_addOne N hn n7]
            simp only [bnd1_some, bnd2_some, bnd3_some, bnd4_some, bnd5_some, bnd6_some, bnd7_some, bnd8_some, bnd9_some, bnd10_some, bnd11_some, bnd12_some, one_eq_zero, if_true, if_false, x_bad, x_no, x_full, x_badAsk, x_refuses0, m_refuse_bad, m_refuse_no, m_refuse_full, m_badAs, g0_t, g0_f, grd_true, nmd_e, jn1_e]
            have e11 : rowAdds row (rn row) (jI k) (jI s) (jI a) 11 = jI (rn row + 1) := by unfold rowAdds; simp (disch := omega) only [upd_ne, upd_eq]
            rw [e11, cj_1, jI_sub (by omega)]; rfl
          refine ⟨_, _, _, _, _, _, _, _, hx, hm, LR_rowAdds H.1 rfl n7 hk hs ha, RI_c ?_ gi, gx, gW⟩
          intro j h1 h2
          unfold rowAdds
          simp (disch := omega) only [upd_ne]
      · exact ⟨_, _, _, _, _, _, _, _, (by unfold fX0_one; simp only [bnd1_some, bnd2_some, bnd3_some, bnd4_some, bnd5_some, bnd6_some, bnd7_some, bnd8_some, bnd9_some, bnd10_some, bnd11_some, bnd12_some, one_eq_zero, if_true, if_false, x_bad, x_no, x_full, x_badAsk, x_refuses0, m_refuse_bad, m_refuse_no, m_refuse_full, m_badAs, g0_t, g0_f, grd_true, nmd_e, jn1_e, x_isKind_t N b1, x_isHouse_t N b2, x_isSwing_f N b3] : fX0_one N p1 p2 p3 rf m u pe ho sw = some (-2, ref 0 rf, m, u, pe, ho, sw)), (by unfold fX5_one; simp only [bnd1_some, bnd2_some, bnd3_some, bnd4_some, bnd5_some, bnd6_some, bnd7_some, bnd8_some, bnd9_some, bnd10_some, bnd11_some, bnd12_some, one_eq_zero, if_true, if_false, x_bad, x_no, x_full, x_badAsk, x_refuses0, m_refuse_bad, m_refuse_no, m_refuse_full, m_badAs, g0_t, g0_f, grd_true, nmd_e, jn1_e, in5_0_5_t N b1, in5_0_1_t N b2, in5_0_9_f N b3] : fX5_one N p1 p2 p3 rf row = some (-2, ref 0 rf, row)), H⟩
    · exact ⟨_, _, _, _, _, _, _, _, (by unfold fX0_one; simp only [bnd1_some, bnd2_some, bnd3_some, bnd4_some, bnd5_some, bnd6_some, bnd7_some, bnd8_some, bnd9_some, bnd10_some, bnd11_some, bnd12_some, one_eq_zero, if_true, if_false, x_bad, x_no, x_full, x_badAsk, x_refuses0, m_refuse_bad, m_refuse_no, m_refuse_full, m_badAs, g0_t, g0_f, grd_true, nmd_e, jn1_e, x_isKind_t N b1, x_isHouse_f N b2] : fX0_one N p1 p2 p3 rf m u pe ho sw = some (-2, ref 0 rf, m, u, pe, ho, sw)), (by unfold fX5_one; simp only [bnd1_some, bnd2_some, bnd3_some, bnd4_some, bnd5_some, bnd6_some, bnd7_some, bnd8_some, bnd9_some, bnd10_some, bnd11_some, bnd12_some, one_eq_zero, if_true, if_false, x_bad, x_no, x_full, x_badAsk, x_refuses0, m_refuse_bad, m_refuse_no, m_refuse_full, m_badAs, g0_t, g0_f, grd_true, nmd_e, jn1_e, in5_0_5_t N b1, in5_0_1_f N b2] : fX5_one N p1 p2 p3 rf row = some (-2, ref 0 rf, row)), H⟩
  · exact ⟨_, _, _, _, _, _, _, _, (by unfold fX0_one; simp only [bnd1_some, bnd2_some, bnd3_some, bnd4_some, bnd5_some, bnd6_some, bnd7_some, bnd8_some, bnd9_some, bnd10_some, bnd11_some, bnd12_some, one_eq_zero, if_true, if_false, x_bad, x_no, x_full, x_badAsk, x_refuses0, m_refuse_bad, m_refuse_no, m_refuse_full, m_badAs, g0_t, g0_f, grd_true, nmd_e, jn1_e, x_isKind_f N b1] : fX0_one N p1 p2 p3 rf m u pe ho sw = some (-2, ref 0 rf, m, u, pe, ho, sw)), (by unfold fX5_one; simp only [bnd1_some, bnd2_some, bnd3_some, bnd4_some, bnd5_some, bnd6_some, bnd7_some, bnd8_some, bnd9_some, bnd10_some, bnd11_some, bnd12_some, one_eq_zero, if_true, if_false, x_bad, x_no, x_full, x_badAsk, x_refuses0, m_refuse_bad, m_refuse_no, m_refuse_full, m_badAs, g0_t, g0_f, grd_true, nmd_e, jn1_e, in5_0_5_f N b1] : fX5_one N p1 p2 p3 rf row = some (-2, ref 0 rf, row)), H⟩
theorem or_bit : ∀ d, d < 4 → ∀ s, s < 2 ^ d → (jI s ||| jshl (1 : Int32) (jI d)) = jI (s + 2 ^ d) := by decide
theorem LR_comes {w : Int32} {m : Int32} {d : Int32} {h : Int32} {t : Int32} {q : Int32} {u : Int32} {pe : Nat → Option Nat} {ho : Nat → Int32} {au : Nat → Option Nat} {si : Nat → Int32} {he : Nat → Int32} {no : Nat → Int32} {ma : Nat → Int32} {th : Int32} {ns : Int32} {ct : Int32} {sw : Nat → Int32} {ws : Nat → Nat → Int32} {wt : Nat → Int32} {wn : Nat → Int32} {wc : Nat → Int32} {ρ ρ' : Nat → Int32} (H : LR (w, m, d, h, t, q, u, pe, ho, au, si, he, no, ma, th, ns, ct, sw, ws, wt, wn, wc) ρ) {n k hs s : Nat} (en : rd ρ = n) (hn : n < 4) (hk : k < 6) (hs1 : s < 2 ^ n) (e26 : ρ' 26 = jI (n + 1)) (e27 : ρ' (27 + n) = jI k) (e31 : ρ' (31 + n) = jI hs) (e7 : ρ' 7 = jI (s + 2 ^ n)) (e98 : ρ' 98 = 0) (ef : ∀ j, j < 179 → ¬ j = 26 → ¬ j = 27 + n → ¬ j = 31 + n → ¬ j = 7 → ¬ j = 98 → ρ' j = ρ j) : LR (w, m, jI (n + 1), h, t, q, 0, pe, ho, va_up au n (some k), upd si n (jI hs), he, no, ma, jI (s + 2 ^ n), ns, ct, sw, ws, wt, wn, wc) ρ' := by
  obtain ⟨ga, gw, gh, gt, gq, gs, gu⟩ := H
  obtain ⟨⟨h7, hn1, h4, hd, hK, hA⟩, ⟨em, ed, e3, e4, e5, e6⟩, okp, oka, h01⟩ := ga
  rw [en] at hA e5 e6 gs
  have n' : rd ρ' = n + 1 := rd_eq (by omega) e26
  have e11 : ρ' 11 = ρ 11 := ef 11 (by omega) (by omega) (by omega) (by omega) (by omega) (by omega)
  have d' : rn ρ' = rn ρ := rn_c e11
  have cases : ∀ i, i < n + 1 → i < n ∨ i = n := fun i hi => by omega
  refine ⟨⟨⟨by omega, by rw [d', e11, hn1], by omega, by rw [n', e26], ?_, ?_⟩, ⟨by rw [d', em], by rw [n'], ?_, ?_, ?_, ?_⟩, okp, okk_put oka hk, ?_⟩, GW_c (ef 10 (by omega) (by omega) (by omega) (by omega) (by omega) (by omega)) gw, GL_c ?_ gh, GL_c ?_ gt, GL_c ?_ gq, ?_, GU_0 e98⟩
  · rw [d']; intro i hi
    unfold rK
    rw [ef (12 + i) (by omega) (by omega) (by omega) (by omega) (by omega) (by omega)]; exact hK i hi
  · rw [n']; intro i hi
    unfold rA
    rcases cases i hi with g | rfl
    · rw [ef (27 + i) (by omega) (by omega) (by omega) (by omega) (by omega) (by omega)]; exact hA i g
    · rw [e27, jI_nat (by omega)]; exact ⟨hk, rfl⟩
  · rw [d']; intro i hi
    unfold rK
    rw [ef (12 + i) (by omega) (by omega) (by omega) (by omega) (by omega) (by omega)]; exact e3 i hi
  · rw [d']; intro i hi
    rw [ef (19 + i) (by omega) (by omega) (by omega) (by omega) (by omega) (by omega)]; exact e4 i hi
  · rw [n']; intro i hi
    unfold rA
    rcases cases i hi with g | rfl
    · rw [ef (27 + i) (by omega) (by omega) (by omega) (by omega) (by omega) (by omega), pUpNe (by omega)]; exact e5 i g
    · rw [e27, jI_nat (by omega), pUpAt]
  · rw [n']; intro i hi
    rcases cases i hi with g | rfl
    · rw [ef (31 + i) (by omega) (by omega) (by omega) (by omega) (by omega) (by omega), upd_ne (by omega)]; exact e6 i g
    · rw [e31, upd_at]
  · rw [d']; intro i hi
    rw [ef (19 + i) (by omega) (by omega) (by omega) (by omega) (by omega) (by omega)]; exact h01 i hi
  · intro j h1 h2; exact ef j (by omega) (by omega) (by omega) (by omega) (by omega) (by omega)
  · intro j h1 h2; exact ef j (by omega) (by omega) (by omega) (by omega) (by omega) (by omega)
  · intro j h1 h2; exact ef j (by omega) (by omega) (by omega) (by omega) (by omega) (by omega)
  · rw [n', d']
    obtain ⟨f7, e8, e9, hs2, hw⟩ := gs
    refine ⟨e7, ?_, ?_, ⟨s + 2 ^ n, by rw [Nat.pow_succ]; omega, rfl⟩, ?_⟩
    · rw [ef _ (by omega) (by omega) (by omega) (by omega) (by omega) (by omega)]; exact e8
    · rw [ef _ (by omega) (by omega) (by omega) (by omega) (by omega) (by omega)]; exact e9
    · intro i hi
      rw [ef (0 + i) (by omega) (by omega) (by omega) (by omega) (by omega) (by omega)]; exact hw i hi
def rowComes (row : Nat → Int32) (n : Nat) (k hs th : Int32) : Nat → Int32 := upd (upd (upd (upd (upd row (27 + n) k) (31 + n) hs) 7 th) 26 (jI (n + 1))) 98 0
theorem m_addAunt (N : Nat) {row : Nat → Int32} {n s : Nat} (hn : row 26 = jI n) (h4 : n < 4) (h7 : row 7 = jI s) (hs : s < 2 ^ n) (k a : Int32) : fX5_addAunt N k a row = some (rowComes row n k a (jI (s + 2 ^ n))) := by
  have e := or_bit n h4 s hs
  rw [cj_1] at e
  unfold fX5_addAunt rowComes
  simp (disch := omega) only [grd_pos, grd_true, jI_le, jI_lt, jI_eq, jI_nat, jI_add, jI_mul, if_pos, if_neg, bnd1_some, bnd2_some, bnd3_some, bnd4_some, bnd5_some, bnd6_some, bnd7_some, nmd_e, true_and, and_true, cj_0, cj_1, cj_2, cj_3, cj_4, cj_5, cj_6, cj_7, cj_8, cj_9, cj_10, cj_11, cj_12, cj_13, cj_14, cj_15, cj_16, cj_19, cj_20, cj_23, cj_24, cj_26, cj_27, cj_28, cj_30, cj_31, cj_32, cj_35, cj_36, cj_37, cj_48, cj_49, cj_50, cj_51, cj_52, cj_57, cj_59, cj_60, cj_61, cj_73, cj_74, cj_75, cj_76, cj_77, cj_90, cj_97, cj_98, cj_99, cj_100, cj_109, cj_120, cj_122, cj_127, cj_150, cj_160, cj_179, cj_537, cj_547, cj_916, cj_9999, cj_1000000, cj_999999, hn, upd_ne, upd_eq, h7, e]
theorem x_comes (N : Nat) {n k s : Nat} (h4 : n < 4) (hk : k < 6) (hs : s < 2 ^ n) (a : Int32) (au : Nat → Option Nat) (si : Nat → Int32) : fX1_comes N (jI k) a (jI n) au si (jI s) = some (jI (n + 1), 0, va_up au n (some k), upd si n a, jI (s + 2 ^ n)) := by
  have e := or_bit n h4 s hs
  rw [cj_1] at e
  unfold fX1_comes
  simp (disch := omega) only [grd_pos, grd_true, jI_le, jI_lt, jI_eq, jI_nat, jI_add, jI_mul, if_pos, if_neg, bnd1_some, bnd2_some, bnd3_some, bnd4_some, bnd5_some, bnd6_some, bnd7_some, nmd_e, true_and, and_true, cj_0, cj_1, cj_2, cj_3, cj_4, cj_5, cj_6, cj_7, cj_8, cj_9, cj_10, cj_11, cj_12, cj_13, cj_14, cj_15, cj_16, cj_19, cj_20, cj_23, cj_24, cj_26, cj_27, cj_28, cj_30, cj_31, cj_32, cj_35, cj_36, cj_37, cj_48, cj_49, cj_50, cj_51, cj_52, cj_57, cj_59, cj_60, cj_61, cj_73, cj_74, cj_75, cj_76, cj_77, cj_90, cj_97, cj_98, cj_99, cj_100, cj_109, cj_120, cj_122, cj_127, cj_150, cj_160, cj_179, cj_537, cj_547, cj_916, cj_9999, cj_1000000, cj_999999, e]
theorem LR_rowComes {w : Int32} {m : Int32} {d : Int32} {h : Int32} {t : Int32} {q : Int32} {u : Int32} {pe : Nat → Option Nat} {ho : Nat → Int32} {au : Nat → Option Nat} {si : Nat → Int32} {he : Nat → Int32} {no : Nat → Int32} {ma : Nat → Int32} {th : Int32} {ns : Int32} {ct : Int32} {sw : Nat → Int32} {ws : Nat → Nat → Int32} {wt : Nat → Int32} {wn : Nat → Int32} {wc : Nat → Int32} {row : Nat → Int32} (H : LR (w, m, d, h, t, q, u, pe, ho, au, si, he, no, ma, th, ns, ct, sw, ws, wt, wn, wc) row) {n k hs s : Nat} (en : rd row = n) (hn : n < 4) (hk : k < 6) (hs1 : s < 2 ^ n) : LR (w, m, jI (n + 1), h, t, q, 0, pe, ho, va_up au n (some k), upd si n (jI hs), he, no, ma, jI (s + 2 ^ n), ns, ct, sw, ws, wt, wn, wc) (rowComes row n (jI k) (jI hs) (jI (s + 2 ^ n))) := by
  refine LR_comes H en hn hk hs1 ?_ ?_ ?_ ?_ ?_ ?_
  all_goals unfold rowComes
  all_goals first | (simp (disch := omega) only [upd_ne, upd_eq]; done) | skip
  intro j h1 h2 h3 h4 h5 h6
  simp (disch := omega) only [upd_ne]
theorem op_aunt {N : Nat} (hN : 1000 ≤ N) {w : Int32} {m : Int32} {d : Int32} {h : Int32} {t : Int32} {q : Int32} {u : Int32} {pe : Nat → Option Nat} {ho : Nat → Int32} {au : Nat → Option Nat} {si : Nat → Int32} {he : Nat → Int32} {no : Nat → Int32} {ma : Nat → Int32} {th : Int32} {ns : Int32} {ct : Int32} {sw : Nat → Int32} {ws : Nat → Nat → Int32} {wt : Nat → Int32} {wn : Nat → Int32} {wc : Nat → Int32} {im : Nat → Option LT} {tx : Nat → Int32} {ty : Int32} {row kept words : Nat → Int32} (H : RR (w, m, d, h, t, q, u, pe, ho, au, si, he, no, ma, th, ns, ct, sw, ws, wt, wn, wc) im tx ty row kept words) (p1 : Int32) (p2 : Int32) (rf : Nat → Int32) : ∃ (r : Int32) (rf' : Nat → Int32) (d' : Int32) (u' : Int32) (au' : Nat → Option Nat) (si' : Nat → Int32) (th' : Int32) (row' : Nat → Int32), fX0_aunt N p1 p2 rf d u au si th = some (r, rf', d', u', au', si', th') ∧ fX5_aunt N p1 p2 rf row = some (r, rf', row') ∧ RR (w, m, d', h, t, q, u', pe, ho, au', si', he, no, ma, th', ns, ct, sw, ws, wt, wn, wc) im tx ty row' kept words := by
  have H' := H
  obtain ⟨⟨ga, gw, gh, gt, gq, gs, gu⟩, gi, gx, gW⟩ := H'
  have ga' := ga
  obtain ⟨hW, hX, okp, oka, h01⟩ := ga'
  have hX' := hX
  obtain ⟨em, ed, e3, e4, e5, e6⟩ := hX'
  have hW' := hW
  obtain ⟨h7, hn, h4, hd, hK, hA⟩ := hW'
  have hn1 : rn row < 1000 := by omega
  have hd1 : rd row < 1000 := by omega
  by_cases b1 : inR p1 0 5
  · by_cases b2 : inR p2 0 1
    · have hf5 : (row 26 = 4) = (d = 4) := by rw [hd, ed]
      by_cases hf : d = 4
      · exact ⟨_, _, _, _, _, _, _, _, (by unfold fX0_aunt; simp only [bnd1_some, bnd2_some, bnd3_some, bnd4_some, bnd5_some, bnd6_some, bnd7_some, bnd8_some, bnd9_some, bnd10_some, bnd11_some, bnd12_some, one_eq_zero, if_true, if_false, x_bad, x_no, x_full, x_badAsk, x_refuses0, m_refuse_bad, m_refuse_no, m_refuse_full, m_badAs, g0_t, g0_f, grd_true, nmd_e, jn1_e, x_isKind_t N b1, x_isHouse_t N b2, eq_true hf] : fX0_aunt N p1 p2 rf d u au si th = some (-4, ref 2 rf, d, u, au, si, th)), (by unfold fX5_aunt; simp only [bnd1_some, bnd2_some, bnd3_some, bnd4_some, bnd5_some, bnd6_some, bnd7_some, bnd8_some, bnd9_some, bnd10_some, bnd11_some, bnd12_some, one_eq_zero, if_true, if_false, x_bad, x_no, x_full, x_badAsk, x_refuses0, m_refuse_bad, m_refuse_no, m_refuse_full, m_badAs, g0_t, g0_f, grd_true, nmd_e, jn1_e, in5_0_5_t N b1, in5_0_1_t N b2, hf5, eq_true hf] : fX5_aunt N p1 p2 rf row = some (-4, ref 2 rf, row)), H⟩
      · obtain ⟨k, hk, ek⟩ := inR_lt (b := 6) b1
        obtain ⟨a, ha, ea⟩ := inR_lt (b := 2) b2
        have n4 : rd row < 4 := by
          rcases Nat.lt_or_ge (rd row) 4 with g | g
          · exact g
          · exfalso; apply hf; rw [ed, (by omega : rd row = 4)]; rfl
        obtain ⟨s, hs, es⟩ := gs.2.2.2.1
        have er7 : row 7 = jI s := by rw [← es]; exact gs.1
        have hx : fX0_aunt N p1 p2 rf d u au si th = some (jI (rd row), rf, jI (rd row + 1), 0, va_up au (rd row) (some k), upd si (rd row) (jI a), jI (s + 2 ^ rd row)) := by
          unfold fX0_aunt; simp only [bnd1_some, bnd2_some, bnd3_some, bnd4_some, bnd5_some, bnd6_some, bnd7_some, bnd8_some, bnd9_some, bnd10_some, bnd11_some, bnd12_some, one_eq_zero, if_true, if_false, x_bad, x_no, x_full, x_badAsk, x_refuses0, m_refuse_bad, m_refuse_no, m_refuse_full, m_badAs, g0_t, g0_f, grd_true, nmd_e, jn1_e, x_isKind_t N b1, x_isHouse_t N b2, hf]
          rw [ek, ea, ed, es, x_comes N n4 hk hs]
          simp only [bnd1_some, bnd2_some, bnd3_some, bnd4_some, bnd5_some, bnd6_some, bnd7_some, bnd8_some, bnd9_some, bnd10_some, bnd11_some, bnd12_some, one_eq_zero, if_true, if_false, x_bad, x_no, x_full, x_badAsk, x_refuses0, m_refuse_bad, m_refuse_no, m_refuse_full, m_badAs, g0_t, g0_f, grd_true, nmd_e, jn1_e]
          rw [cj_1, jI_sub (by omega)]; rfl
        have hm : fX5_aunt N p1 p2 rf row = some (jI (rd row), rf, rowComes row (rd row) (jI k) (jI a) (jI (s + 2 ^ rd row))) := by
          unfold fX5_aunt; simp only [bnd1_some, bnd2_some, bnd3_some, bnd4_some, bnd5_some, bnd6_some, bnd7_some, bnd8_some, bnd9_some, bnd10_some, bnd11_some, bnd12_some, one_eq_zero, if_true, if_false, x_bad, x_no, x_full, x_badAsk, x_refuses0, m_refuse_bad, m_refuse_no, m_refuse_full, m_badAs, g0_t, g0_f, grd_true, nmd_e, jn1_e, in5_0_5_t N b1, in5_0_1_t N b2, hf5, hf]
          rw [ek, ea, m_addAunt N hd n4 er7 hs]
          simp only [bnd1_some, bnd2_some, bnd3_some, bnd4_some, bnd5_some, bnd6_some, bnd7_some, bnd8_some, bnd9_some, bnd10_some, bnd11_some, bnd12_some, one_eq_zero, if_true, if_false, x_bad, x_no, x_full, x_badAsk, x_refuses0, m_refuse_bad, m_refuse_no, m_refuse_full, m_badAs, g0_t, g0_f, grd_true, nmd_e, jn1_e]
          have e11 : rowComes row (rd row) (jI k) (jI a) (jI (s + 2 ^ rd row)) 26 = jI (rd row + 1) := by unfold rowComes; simp (disch := omega) only [upd_ne, upd_eq]
          rw [e11, cj_1, jI_sub (by omega)]; rfl
        refine ⟨_, _, _, _, _, _, _, _, hx, hm, LR_rowComes H.1 rfl n4 hk hs, RI_c ?_ gi, gx, gW⟩
        intro j h1 h2
        unfold rowComes
        simp (disch := omega) only [upd_ne]
    · exact ⟨_, _, _, _, _, _, _, _, (by unfold fX0_aunt; simp only [bnd1_some, bnd2_some, bnd3_some, bnd4_some, bnd5_some, bnd6_some, bnd7_some, bnd8_some, bnd9_some, bnd10_some, bnd11_some, bnd12_some, one_eq_zero, if_true, if_false, x_bad, x_no, x_full, x_badAsk, x_refuses0, m_refuse_bad, m_refuse_no, m_refuse_full, m_badAs, g0_t, g0_f, grd_true, nmd_e, jn1_e, x_isKind_t N b1, x_isHouse_f N b2] : fX0_aunt N p1 p2 rf d u au si th = some (-2, ref 0 rf, d, u, au, si, th)), (by unfold fX5_aunt; simp only [bnd1_some, bnd2_some, bnd3_some, bnd4_some, bnd5_some, bnd6_some, bnd7_some, bnd8_some, bnd9_some, bnd10_some, bnd11_some, bnd12_some, one_eq_zero, if_true, if_false, x_bad, x_no, x_full, x_badAsk, x_refuses0, m_refuse_bad, m_refuse_no, m_refuse_full, m_badAs, g0_t, g0_f, grd_true, nmd_e, jn1_e, in5_0_5_t N b1, in5_0_1_f N b2] : fX5_aunt N p1 p2 rf row = some (-2, ref 0 rf, row)), H⟩
  · exact ⟨_, _, _, _, _, _, _, _, (by unfold fX0_aunt; simp only [bnd1_some, bnd2_some, bnd3_some, bnd4_some, bnd5_some, bnd6_some, bnd7_some, bnd8_some, bnd9_some, bnd10_some, bnd11_some, bnd12_some, one_eq_zero, if_true, if_false, x_bad, x_no, x_full, x_badAsk, x_refuses0, m_refuse_bad, m_refuse_no, m_refuse_full, m_badAs, g0_t, g0_f, grd_true, nmd_e, jn1_e, x_isKind_f N b1] : fX0_aunt N p1 p2 rf d u au si th = some (-2, ref 0 rf, d, u, au, si, th)), (by unfold fX5_aunt; simp only [bnd1_some, bnd2_some, bnd3_some, bnd4_some, bnd5_some, bnd6_some, bnd7_some, bnd8_some, bnd9_some, bnd10_some, bnd11_some, bnd12_some, one_eq_zero, if_true, if_false, x_bad, x_no, x_full, x_badAsk, x_refuses0, m_refuse_bad, m_refuse_no, m_refuse_full, m_badAs, g0_t, g0_f, grd_true, nmd_e, jn1_e, in5_0_5_f N b1] : fX5_aunt N p1 p2 rf row = some (-2, ref 0 rf, row)), H⟩
