/-! PLAIN LAW 11: swings, sends, undo -/
theorem grd_li {i L : Nat} (hi : i < L) (hL : L < 2147483648) {α : Type} {x : Option α} : grd (¬ (jI i < 0 ∨ L ≤ i)) x = x := by
  apply grd_pos
  rw [jI_neg (by omega), false_or]
  omega
theorem LR_now {w : Int32} {m : Int32} {d : Int32} {h : Int32} {t : Int32} {q : Int32} {u : Int32} {pe : Nat → Option Nat} {ho : Nat → Int32} {au : Nat → Option Nat} {si : Nat → Int32} {he : Nat → Int32} {no : Nat → Int32} {ma : Nat → Int32} {th : Int32} {ns : Int32} {ct : Int32} {sw : Nat → Int32} {ws : Nat → Nat → Int32} {wt : Nat → Int32} {wn : Nat → Int32} {wc : Nat → Int32} {ρ ρ' : Nat → Int32} (H : LR (w, m, d, h, t, q, u, pe, ho, au, si, he, no, ma, th, ns, ct, sw, ws, wt, wn, wc) ρ) {u' th' ns' ct' : Int32} {sw' : Nat → Int32} {ws' : Nat → Nat → Int32} {wt' wn' wc' : Nat → Int32} (e : ∀ k, 10 ≤ k → k < 98 → ρ' k = ρ k) (gs' : GS (rn ρ) (rd ρ) 0 th' ns' ct' sw' ρ') (gu' : GU (rn ρ) (rd ρ) u' ws' wt' wn' wc' ρ') : LR (w, m, d, h, t, q, u', pe, ho, au, si, he, no, ma, th', ns', ct', sw', ws', wt', wn', wc') ρ' := by
  obtain ⟨ga, gw, gh, gt, gq, gs, gu⟩ := H
  refine ⟨GA_c ?_ ga, GW_c ?_ gw, GL_c ?_ gh, GL_c ?_ gt, GL_c ?_ gq, ?_, ?_⟩
  · intro k h1 h2; exact e k (by omega) (by omega)
  · exact e 10 (by omega) (by omega)
  · intro k h1 h2; exact e k (by omega) (by omega)
  · intro k h1 h2; exact e k (by omega) (by omega)
  · intro k h1 h2; exact e k (by omega) (by omega)
  · rw [rn_c (e 11 (by omega) (by omega)), rd_c (e 26 (by omega) (by omega))]; exact gs'
  · rw [rn_c (e 11 (by omega) (by omega)), rd_c (e 26 (by omega) (by omega))]; exact gu'
theorem GS_sw {n d i a : Nat} {th ns ct : Int32} {sw ρ : Nat → Int32} (hn : n ≤ 7) (hi : i < n) (ha : a < 10) (g : GS n d 0 th ns ct sw ρ) : GS n d 0 th ns ct (upd sw i (jI a)) (upd ρ i (jI a)) := by
  obtain ⟨e7, e8, e9, hs, hw⟩ := g
  refine ⟨?_, ?_, ?_, hs, ?_⟩
  · rw [upd_ne (by omega)]; exact e7
  · rw [upd_ne (by omega)]; exact e8
  · rw [upd_ne (by omega)]; exact e9
  · intro j hj
    rw [Nat.zero_add]
    by_cases h : j = i
    · subst h; rw [upd_at, upd_at]; exact ⟨rfl, a, ha, rfl⟩
    · rw [upd_ne h, upd_ne h]
      have := hw j hj
      rwa [Nat.zero_add] at this
theorem op_swings {N : Nat} (hN : 1000 ≤ N) {w : Int32} {m : Int32} {d : Int32} {h : Int32} {t : Int32} {q : Int32} {u : Int32} {pe : Nat → Option Nat} {ho : Nat → Int32} {au : Nat → Option Nat} {si : Nat → Int32} {he : Nat → Int32} {no : Nat → Int32} {ma : Nat → Int32} {th : Int32} {ns : Int32} {ct : Int32} {sw : Nat → Int32} {ws : Nat → Nat → Int32} {wt : Nat → Int32} {wn : Nat → Int32} {wc : Nat → Int32} {im : Nat → Option LT} {tx : Nat → Int32} {ty : Int32} {row kept words : Nat → Int32} (H : RR (w, m, d, h, t, q, u, pe, ho, au, si, he, no, ma, th, ns, ct, sw, ws, wt, wn, wc) im tx ty row kept words) (p1 : Int32) (p2 : Int32) (rf : Nat → Int32) : ∃ (r : Int32) (u' : Int32) (rf' : Nat → Int32) (sw' : Nat → Int32) (ws' : Nat → Nat → Int32) (wt' : Nat → Int32) (wn' : Nat → Int32) (wc' : Nat → Int32) (row' : Nat → Int32), fX0_swings N p1 p2 m u rf th ns ct sw ws wt wn wc = some (r, u', rf', sw', ws', wt', wn', wc') ∧ fX5_swings N p1 p2 row rf = some (r, row', rf') ∧ RR (w, m, d, h, t, q, u', pe, ho, au, si, he, no, ma, th, ns, ct, sw', ws', wt', wn', wc') im tx ty row' kept words := by
  have H' := H
  obtain ⟨⟨ga, gw, gh, gt, gq, gs, gu⟩, gi, gx, gW⟩ := H'
  have ga' := ga
  obtain ⟨hW, hX, okp, oka, h01⟩ := ga'
  have hX' := hX
  obtain ⟨em, ed, e3, e4, e5, e6⟩ := hX'
  have hW' := hW
  obtain ⟨h7, hn, h4, hd, hK, hA⟩ := hW'
  have hn1 : rn row < 1000 := by omega
  have hd1 : rd row < 1000 := by omega
  by_cases b1 : inR p1 0 ((rn row : Int) - 1)
  · by_cases b2 : inR p2 0 9
    · obtain ⟨i, hi, ep⟩ := inR_lt b1
      obtain ⟨a, ha, ea⟩ := inR_lt (b := 10) b2
      have es : row i = sw i := by have := (gs.2.2.2.2 i hi).1; rw [Nat.zero_add] at this; exact this.symm
      by_cases hf : sw i = p2
      · have hx : fX0_swings N p1 p2 m u rf th ns ct sw ws wt wn wc = some (-3, u, ref 1 rf, sw, ws, wt, wn, wc) := by
          unfold fX0_swings; simp only [bnd1_some, bnd2_some, bnd3_some, bnd4_some, bnd5_some, bnd6_some, bnd7_some, bnd8_some, bnd9_some, bnd10_some, bnd11_some, bnd12_some, one_eq_zero, if_true, if_false, x_bad, x_no, x_full, x_badAsk, x_refuses0, m_refuse_bad, m_refuse_no, m_refuse_full, m_badAs, g0_t, g0_f, grd_true, nmd_e, jn1_e, em, x_isOne_t N hn1 b1, x_isSwing_t N b2]
          rw [ep, grd_lt (by omega) (by omega), jI_nat (by omega), if_pos hf]
        have hm : fX5_swings N p1 p2 row rf = some (-3, row, ref 1 rf) := by
          unfold fX5_swings; simp only [bnd1_some, bnd2_some, bnd3_some, bnd4_some, bnd5_some, bnd6_some, bnd7_some, bnd8_some, bnd9_some, bnd10_some, bnd11_some, bnd12_some, one_eq_zero, if_true, if_false, x_bad, x_no, x_full, x_badAsk, x_refuses0, m_refuse_bad, m_refuse_no, m_refuse_full, m_badAs, g0_t, g0_f, grd_true, nmd_e, jn1_e, m_isOne_t N hn hn1 b1, in5_0_9_t N b2]
          rw [ep, jI_0', grd_lt (by omega) (by omega), jI_nat (by omega), es, if_pos hf]
        exact ⟨_, _, _, _, _, _, _, _, _, hx, hm, H⟩
      · obtain ⟨u', ws', wt', wn', wc', row', hx1, hm1, el, eh, gu'⟩ := rem_both hN h7 gs gu
        have hx : fX0_swings N p1 p2 m u rf th ns ct sw ws wt wn wc = some (sw i, u', rf, upd sw i (jI a), ws', wt', wn', wc') := by
          unfold fX0_swings; simp only [bnd1_some, bnd2_some, bnd3_some, bnd4_some, bnd5_some, bnd6_some, bnd7_some, bnd8_some, bnd9_some, bnd10_some, bnd11_some, bnd12_some, one_eq_zero, if_true, if_false, x_bad, x_no, x_full, x_badAsk, x_refuses0, m_refuse_bad, m_refuse_no, m_refuse_full, m_badAs, g0_t, g0_f, grd_true, nmd_e, jn1_e, em, x_isOne_t N hn1 b1, x_isSwing_t N b2]
          rw [ep, grd_lt (by omega) (by omega), jI_nat (by omega), if_neg hf, hx1]
          simp only [bnd1_some, bnd2_some, bnd3_some, bnd4_some, bnd5_some, bnd6_some, bnd7_some, bnd8_some, bnd9_some, bnd10_some, bnd11_some, bnd12_some, one_eq_zero, if_true, if_false, x_bad, x_no, x_full, x_badAsk, x_refuses0, m_refuse_bad, m_refuse_no, m_refuse_full, m_badAs, g0_t, g0_f, grd_true, nmd_e, jn1_e]
          rw [grd_li (by omega) (by omega), ea]
        have hm : fX5_swings N p1 p2 row rf = some (sw i, upd row' i (jI a), rf) := by
          unfold fX5_swings; simp only [bnd1_some, bnd2_some, bnd3_some, bnd4_some, bnd5_some, bnd6_some, bnd7_some, bnd8_some, bnd9_some, bnd10_some, bnd11_some, bnd12_some, one_eq_zero, if_true, if_false, x_bad, x_no, x_full, x_badAsk, x_refuses0, m_refuse_bad, m_refuse_no, m_refuse_full, m_badAs, g0_t, g0_f, grd_true, nmd_e, jn1_e, m_isOne_t N hn hn1 b1, in5_0_9_t N b2]
          rw [ep, jI_0', grd_lt (by omega) (by omega), jI_nat (by omega), es, if_neg hf, hm1]
          simp only [bnd1_some, bnd2_some, bnd3_some, bnd4_some, bnd5_some, bnd6_some, bnd7_some, bnd8_some, bnd9_some, bnd10_some, bnd11_some, bnd12_some, one_eq_zero, if_true, if_false, x_bad, x_no, x_full, x_badAsk, x_refuses0, m_refuse_bad, m_refuse_no, m_refuse_full, m_badAs, g0_t, g0_f, grd_true, nmd_e, jn1_e]
          rw [grd_li (by omega) (by omega), ea]
        refine ⟨_, _, _, _, _, _, _, _, _, hx, hm, LR_now H.1 ?_ (GS_sw h7 hi ha (GS_c h7 (fun k h1 h2 => el k (by omega)) gs)) (GU_c h7 ?_ gu'), RI_c ?_ gi, gx, gW⟩
        · intro k h1 h2; rw [upd_ne (by omega)]; exact el k h2
        · intro k h1 h2; rw [upd_ne (by omega)]
        · intro k h1 h2; rw [upd_ne (by omega)]; exact eh k h1
    · exact ⟨_, _, _, _, _, _, _, _, _, (by unfold fX0_swings; simp only [bnd1_some, bnd2_some, bnd3_some, bnd4_some, bnd5_some, bnd6_some, bnd7_some, bnd8_some, bnd9_some, bnd10_some, bnd11_some, bnd12_some, one_eq_zero, if_true, if_false, x_bad, x_no, x_full, x_badAsk, x_refuses0, m_refuse_bad, m_refuse_no, m_refuse_full, m_badAs, g0_t, g0_f, grd_true, nmd_e, jn1_e, em, x_isOne_t N hn1 b1, x_isSwing_f N b2] : fX0_swings N p1 p2 m u rf th ns ct sw ws wt wn wc = some (-2, u, ref 0 rf, sw, ws, wt, wn, wc)), (by unfold fX5_swings; simp only [bnd1_some, bnd2_some, bnd3_some, bnd4_some, bnd5_some, bnd6_some, bnd7_some, bnd8_some, bnd9_some, bnd10_some, bnd11_some, bnd12_some, one_eq_zero, if_true, if_false, x_bad, x_no, x_full, x_badAsk, x_refuses0, m_refuse_bad, m_refuse_no, m_refuse_full, m_badAs, g0_t, g0_f, grd_true, nmd_e, jn1_e, m_isOne_t N hn hn1 b1, in5_0_9_f N b2] : fX5_swings N p1 p2 row rf = some (-2, row, ref 0 rf)), H⟩
  · exact ⟨_, _, _, _, _, _, _, _, _, (by unfold fX0_swings; simp only [bnd1_some, bnd2_some, bnd3_some, bnd4_some, bnd5_some, bnd6_some, bnd7_some, bnd8_some, bnd9_some, bnd10_some, bnd11_some, bnd12_some, one_eq_zero, if_true, if_false, x_bad, x_no, x_full, x_badAsk, x_refuses0, m_refuse_bad, m_refuse_no, m_refuse_full, m_badAs, g0_t, g0_f, grd_true, nmd_e, jn1_e, em, x_isOne_f N hn1 b1] : fX0_swings N p1 p2 m u rf th ns ct sw ws wt wn wc = some (-2, u, ref 0 rf, sw, ws, wt, wn, wc)), (by unfold fX5_swings; simp only [bnd1_some, bnd2_some, bnd3_some, bnd4_some, bnd5_some, bnd6_some, bnd7_some, bnd8_some, bnd9_some, bnd10_some, bnd11_some, bnd12_some, one_eq_zero, if_true, if_false, x_bad, x_no, x_full, x_badAsk, x_refuses0, m_refuse_bad, m_refuse_no, m_refuse_full, m_badAs, g0_t, g0_f, grd_true, nmd_e, jn1_e, m_isOne_f N hn hn1 b1] : fX5_swings N p1 p2 row rf = some (-2, row, ref 0 rf)), H⟩
theorem xor_bit : ∀ d, d < 5 → ∀ s, s < 2 ^ d → ∀ i, i < d → ((jI s ^^^ jshl (1 : Int32) (jI i)) = jI (s ^^^ 2 ^ i) ∧ s ^^^ 2 ^ i < 2 ^ d) := by decide
theorem GS_th {n d s : Nat} {th ns ct : Int32} {sw ρ : Nat → Int32} (hn : n ≤ 7) (hs : s < 2 ^ d) (g : GS n d 0 th ns ct sw ρ) : GS n d 0 (jI s) ns ct sw (upd ρ 7 (jI s)) := by
  obtain ⟨e7, e8, e9, hs1, hw⟩ := g
  refine ⟨upd_at _ _ _, ?_, ?_, ⟨s, hs, rfl⟩, ?_⟩
  · rw [upd_ne (by omega)]; exact e8
  · rw [upd_ne (by omega)]; exact e9
  · intro j hj
    rw [upd_ne (by omega)]; exact hw j hj
theorem op_sends {N : Nat} (hN : 1000 ≤ N) {w : Int32} {m : Int32} {d : Int32} {h : Int32} {t : Int32} {q : Int32} {u : Int32} {pe : Nat → Option Nat} {ho : Nat → Int32} {au : Nat → Option Nat} {si : Nat → Int32} {he : Nat → Int32} {no : Nat → Int32} {ma : Nat → Int32} {th : Int32} {ns : Int32} {ct : Int32} {sw : Nat → Int32} {ws : Nat → Nat → Int32} {wt : Nat → Int32} {wn : Nat → Int32} {wc : Nat → Int32} {im : Nat → Option LT} {tx : Nat → Int32} {ty : Int32} {row kept words : Nat → Int32} (H : RR (w, m, d, h, t, q, u, pe, ho, au, si, he, no, ma, th, ns, ct, sw, ws, wt, wn, wc) im tx ty row kept words) (p1 : Int32) (p2 : Int32) (rf : Nat → Int32) : ∃ (r : Int32) (u' : Int32) (rf' : Nat → Int32) (th' : Int32) (ws' : Nat → Nat → Int32) (wt' : Nat → Int32) (wn' : Nat → Int32) (wc' : Nat → Int32) (row' : Nat → Int32), fX0_sends N p1 p2 d u rf th ns ct ws wt wn wc sw = some (r, u', rf', th', ws', wt', wn', wc') ∧ fX5_sends N p1 p2 row rf = some (r, row', rf') ∧ RR (w, m, d, h, t, q, u', pe, ho, au, si, he, no, ma, th', ns, ct, sw, ws', wt', wn', wc') im tx ty row' kept words := by
  have H' := H
  obtain ⟨⟨ga, gw, gh, gt, gq, gs, gu⟩, gi, gx, gW⟩ := H'
  have ga' := ga
  obtain ⟨hW, hX, okp, oka, h01⟩ := ga'
  have hX' := hX
  obtain ⟨em, ed, e3, e4, e5, e6⟩ := hX'
  have hW' := hW
  obtain ⟨h7, hn, h4, hd, hK, hA⟩ := hW'
  have hn1 : rn row < 1000 := by omega
  have hd1 : rd row < 1000 := by omega
  by_cases b1 : inR p1 0 ((rd row : Int) - 1)
  · by_cases b2 : inR p2 0 1
    · obtain ⟨i, hi, ep⟩ := inR_lt b1
      have e7 : row 7 = th := gs.1
      by_cases hf : (jshr th p1 &&& (1 : Int32)) = p2
      · have hx : fX0_sends N p1 p2 d u rf th ns ct ws wt wn wc sw = some (-3, u, ref 1 rf, th, ws, wt, wn, wc) := by
          unfold fX0_sends; simp only [bnd1_some, bnd2_some, bnd3_some, bnd4_some, bnd5_some, bnd6_some, bnd7_some, bnd8_some, bnd9_some, bnd10_some, bnd11_some, bnd12_some, one_eq_zero, if_true, if_false, x_bad, x_no, x_full, x_badAsk, x_refuses0, m_refuse_bad, m_refuse_no, m_refuse_full, m_badAs, g0_t, g0_f, grd_true, nmd_e, jn1_e, ed, x_isAunt_t N hd1 b1, in0_0_1_t N b2]
          rw [if_pos hf]
        have hm : fX5_sends N p1 p2 row rf = some (-3, row, ref 1 rf) := by
          unfold fX5_sends; simp only [bnd1_some, bnd2_some, bnd3_some, bnd4_some, bnd5_some, bnd6_some, bnd7_some, bnd8_some, bnd9_some, bnd10_some, bnd11_some, bnd12_some, one_eq_zero, if_true, if_false, x_bad, x_no, x_full, x_badAsk, x_refuses0, m_refuse_bad, m_refuse_no, m_refuse_full, m_badAs, g0_t, g0_f, grd_true, nmd_e, jn1_e, m_isAunt_t N hd hd1 b1, in5_0_1_t N b2]
          rw [e7, if_pos hf]
        exact ⟨_, _, _, _, _, _, _, _, _, hx, hm, H⟩
      · obtain ⟨u', ws', wt', wn', wc', row', hx1, hm1, el, eh, gu'⟩ := rem_both hN h7 gs gu
        obtain ⟨s, hs, es⟩ := gs.2.2.2.1
        obtain ⟨xb, xl⟩ := xor_bit (rd row) (by omega) s hs i hi
        have hx : fX0_sends N p1 p2 d u rf th ns ct ws wt wn wc sw = some ((jshr th p1 &&& (1 : Int32)), u', rf, jI (s ^^^ 2 ^ i), ws', wt', wn', wc') := by
          unfold fX0_sends; simp only [bnd1_some, bnd2_some, bnd3_some, bnd4_some, bnd5_some, bnd6_some, bnd7_some, bnd8_some, bnd9_some, bnd10_some, bnd11_some, bnd12_some, one_eq_zero, if_true, if_false, x_bad, x_no, x_full, x_badAsk, x_refuses0, m_refuse_bad, m_refuse_no, m_refuse_full, m_badAs, g0_t, g0_f, grd_true, nmd_e, jn1_e, ed, x_isAunt_t N hd1 b1, in0_0_1_t N b2]
          rw [if_neg hf, hx1]
          simp only [bnd1_some, bnd2_some, bnd3_some, bnd4_some, bnd5_some, bnd6_some, bnd7_some, bnd8_some, bnd9_some, bnd10_some, bnd11_some, bnd12_some, one_eq_zero, if_true, if_false, x_bad, x_no, x_full, x_badAsk, x_refuses0, m_refuse_bad, m_refuse_no, m_refuse_full, m_badAs, g0_t, g0_f, grd_true, nmd_e, jn1_e]
          rw [ep, es, xb]
        have hm : fX5_sends N p1 p2 row rf = some ((jshr th p1 &&& (1 : Int32)), upd row' 7 (jI (s ^^^ 2 ^ i)), rf) := by
          unfold fX5_sends; simp only [bnd1_some, bnd2_some, bnd3_some, bnd4_some, bnd5_some, bnd6_some, bnd7_some, bnd8_some, bnd9_some, bnd10_some, bnd11_some, bnd12_some, one_eq_zero, if_true, if_false, x_bad, x_no, x_full, x_badAsk, x_refuses0, m_refuse_bad, m_refuse_no, m_refuse_full, m_badAs, g0_t, g0_f, grd_true, nmd_e, jn1_e, m_isAunt_t N hd hd1 b1, in5_0_1_t N b2]
          rw [e7, if_neg hf, hm1]
          simp only [bnd1_some, bnd2_some, bnd3_some, bnd4_some, bnd5_some, bnd6_some, bnd7_some, bnd8_some, bnd9_some, bnd10_some, bnd11_some, bnd12_some, one_eq_zero, if_true, if_false, x_bad, x_no, x_full, x_badAsk, x_refuses0, m_refuse_bad, m_refuse_no, m_refuse_full, m_badAs, g0_t, g0_f, grd_true, nmd_e, jn1_e]
          rw [el 7 (by omega), e7, ep, es, xb]
        refine ⟨_, _, _, _, _, _, _, _, _, hx, hm, LR_now H.1 ?_ (GS_th h7 xl (GS_c h7 (fun k h1 h2 => el k (by omega)) gs)) (GU_c h7 ?_ gu'), RI_c ?_ gi, gx, gW⟩
        · intro k h1 h2; rw [upd_ne (by omega)]; exact el k h2
        · intro k h1 h2; rw [upd_ne (by omega)]
        · intro k h1 h2; rw [upd_ne (by omega)]; exact eh k h1
    · exact ⟨_, _, _, _, _, _, _, _, _, (by unfold fX0_sends; simp only [bnd1_some, bnd2_some, bnd3_some, bnd4_some, bnd5_some, bnd6_some, bnd7_some, bnd8_some, bnd9_some, bnd10_some, bnd11_some, bnd12_some, one_eq_zero, if_true, if_false, x_bad, x_no, x_full, x_badAsk, x_refuses0, m_refuse_bad, m_refuse_no, m_refuse_full, m_badAs, g0_t, g0_f, grd_true, nmd_e, jn1_e, ed, x_isAunt_t N hd1 b1, in0_0_1_f N b2] : fX0_sends N p1 p2 d u rf th ns ct ws wt wn wc sw = some (-2, u, ref 0 rf, th, ws, wt, wn, wc)), (by unfold fX5_sends; simp only [bnd1_some, bnd2_some, bnd3_some, bnd4_some, bnd5_some, bnd6_some, bnd7_some, bnd8_some, bnd9_some, bnd10_some, bnd11_some, bnd12_some, one_eq_zero, if_true, if_false, x_bad, x_no, x_full, x_badAsk, x_refuses0, m_refuse_bad, m_refuse_no, m_refuse_full, m_badAs, g0_t, g0_f, grd_true, nmd_e, jn1_e, m_isAunt_t N hd hd1 b1, in5_0_1_f N b2] : fX5_sends N p1 p2 row rf = some (-2, row, ref 0 rf)), H⟩
  · exact ⟨_, _, _, _, _, _, _, _, _, (by unfold fX0_sends; simp only [bnd1_some, bnd2_some, bnd3_some, bnd4_some, bnd5_some, bnd6_some, bnd7_some, bnd8_some, bnd9_some, bnd10_some, bnd11_some, bnd12_some, one_eq_zero, if_true, if_false, x_bad, x_no, x_full, x_badAsk, x_refuses0, m_refuse_bad, m_refuse_no, m_refuse_full, m_badAs, g0_t, g0_f, grd_true, nmd_e, jn1_e, ed, x_isAunt_f N hd1 b1] : fX0_sends N p1 p2 d u rf th ns ct ws wt wn wc sw = some (-2, u, ref 0 rf, th, ws, wt, wn, wc)), (by unfold fX5_sends; simp only [bnd1_some, bnd2_some, bnd3_some, bnd4_some, bnd5_some, bnd6_some, bnd7_some, bnd8_some, bnd9_some, bnd10_some, bnd11_some, bnd12_some, one_eq_zero, if_true, if_false, x_bad, x_no, x_full, x_badAsk, x_refuses0, m_refuse_bad, m_refuse_no, m_refuse_full, m_badAs, g0_t, g0_f, grd_true, nmd_e, jn1_e, m_isAunt_f N hd hd1 b1] : fX5_sends N p1 p2 row rf = some (-2, row, ref 0 rf)), H⟩
def unR (g : Nat → Int32) (b i : Nat) : Nat → Int32 := fun k => if k < i then g (b + k) else g k
theorem unR_upd {g : Nat → Int32} {b i : Nat} (hb : i ≤ b) : upd (unR g b i) i (unR g b i (b + i)) = unR g b (i + 1) := by
  funext k
  unfold upd unR
  by_cases h1 : k = i
  · rw [if_pos h1, if_neg (by omega), if_pos (by omega), h1]
  · rw [if_neg h1]
    by_cases h2 : k < i
    · rw [if_pos h2, if_pos (by omega)]
    · rw [if_neg h2, if_neg (by omega)]
theorem m_undo {N : Nat} (hN : 1000 ≤ N) {row rf : Nat → Int32} {v : Nat} (hv : v < 8) (e : row 98 = jI (v + 1)) : fX5_undo N row rf = some (unR (upd row 98 (jI v)) (99 + 10 * v) 10 9, unR (upd row 98 (jI v)) (99 + 10 * v) 10, rf) := by
  have hne : ¬ row 98 = (0 : Int32) := by rw [e, cj_0, jI_eq (by omega) (by omega)]; omega
  unfold fX5_undo
  rw [if_neg hne, e, cj_1, jI_sub (by omega), Nat.add_sub_cancel]
  have e98 : ∀ i, i < 11 → unR (upd row 98 (jI v)) (99 + 10 * v) i 98 = jI v := by
    intro i hi
    unfold unR; rw [if_neg (by omega), upd_at]
  have z : unR (upd row 98 (jI v)) (99 + 10 * v) 0 = upd row 98 (jI v) := by
    funext k; unfold unR; rw [if_neg (by omega)]
  have := whl2_seq (step := (fun (x_14 : Int32) (a_15 : Nat → Int32) rec_16 => if (10 : Int32) ≤ x_14 then some ((a_15 9), a_15, rf) else grd (¬ ((((99 : Int32) + ((10 : Int32) * (a_15 98))) + x_14) < 0 ∨ 547 ≤ (((99 : Int32) + ((10 : Int32) * (a_15 98))) + x_14).toNatClampNeg)) (nmd (a_15 (((99 : Int32) + ((10 : Int32) * (a_15 98))) + x_14).toNatClampNeg) (fun w_22 => grd (¬ (x_14 < 0 ∨ 547 ≤ x_14.toNatClampNeg)) (rec_16 (x_14 + (1 : Int32)) (upd a_15 x_14.toNatClampNeg w_22)))))) (fun i => jI i) (fun i => unR (upd row 98 (jI v)) (99 + 10 * v) i) 10 ?_ N (by omega)
  · rw [z] at this
    refine this.trans ?_
    simp (disch := omega) only [grd_pos, grd_true, jI_le, jI_lt, jI_eq, jI_nat, jI_add, jI_mul, if_pos, if_neg, bnd1_some, bnd2_some, bnd3_some, bnd4_some, bnd5_some, bnd6_some, bnd7_some, nmd_e, true_and, and_true, cj_0, cj_1, cj_2, cj_3, cj_4, cj_5, cj_6, cj_7, cj_8, cj_9, cj_10, cj_11, cj_12, cj_13, cj_14, cj_15, cj_16, cj_19, cj_20, cj_23, cj_24, cj_26, cj_27, cj_28, cj_30, cj_31, cj_32, cj_35, cj_36, cj_37, cj_48, cj_49, cj_50, cj_51, cj_52, cj_57, cj_59, cj_60, cj_61, cj_73, cj_74, cj_75, cj_76, cj_77, cj_90, cj_97, cj_98, cj_99, cj_100, cj_109, cj_120, cj_122, cj_127, cj_150, cj_160, cj_179, cj_537, cj_547, cj_916, cj_9999, cj_1000000, cj_999999]
  · intro i hi rec
    simp (disch := omega) only [grd_pos, grd_true, jI_le, jI_lt, jI_eq, jI_nat, jI_add, jI_mul, if_pos, if_neg, bnd1_some, bnd2_some, bnd3_some, bnd4_some, bnd5_some, bnd6_some, bnd7_some, nmd_e, true_and, and_true, cj_0, cj_1, cj_2, cj_3, cj_4, cj_5, cj_6, cj_7, cj_8, cj_9, cj_10, cj_11, cj_12, cj_13, cj_14, cj_15, cj_16, cj_19, cj_20, cj_23, cj_24, cj_26, cj_27, cj_28, cj_30, cj_31, cj_32, cj_35, cj_36, cj_37, cj_48, cj_49, cj_50, cj_51, cj_52, cj_57, cj_59, cj_60, cj_61, cj_73, cj_74, cj_75, cj_76, cj_77, cj_90, cj_97, cj_98, cj_99, cj_100, cj_109, cj_120, cj_122, cj_127, cj_150, cj_160, cj_179, cj_537, cj_547, cj_916, cj_9999, cj_1000000, cj_999999, e98]
    rw [unR_upd (by omega)]
theorem op_undo {N : Nat} (hN : 1000 ≤ N) {w : Int32} {m : Int32} {d : Int32} {h : Int32} {t : Int32} {q : Int32} {u : Int32} {pe : Nat → Option Nat} {ho : Nat → Int32} {au : Nat → Option Nat} {si : Nat → Int32} {he : Nat → Int32} {no : Nat → Int32} {ma : Nat → Int32} {th : Int32} {ns : Int32} {ct : Int32} {sw : Nat → Int32} {ws : Nat → Nat → Int32} {wt : Nat → Int32} {wn : Nat → Int32} {wc : Nat → Int32} {im : Nat → Option LT} {tx : Nat → Int32} {ty : Int32} {row kept words : Nat → Int32} (H : RR (w, m, d, h, t, q, u, pe, ho, au, si, he, no, ma, th, ns, ct, sw, ws, wt, wn, wc) im tx ty row kept words)  (rf : Nat → Int32) : ∃ (r : Int32) (u' : Int32) (th' : Int32) (ns' : Int32) (ct' : Int32) (sw' : Nat → Int32) (rf' : Nat → Int32) (row' : Nat → Int32), fX0_undo N u ws wt wn wc th ns ct sw rf = some (r, u', th', ns', ct', sw', rf') ∧ fX5_undo N row rf = some (r, row', rf') ∧ RR (w, m, d, h, t, q, u', pe, ho, au, si, he, no, ma, th', ns', ct', sw', ws, wt, wn, wc) im tx ty row' kept words := by
  have H' := H
  obtain ⟨⟨ga, gw, gh, gt, gq, gs, gu⟩, gi, gx, gW⟩ := H'
  have ga' := ga
  obtain ⟨hW, hX, okp, oka, h01⟩ := ga'
  have hX' := hX
  obtain ⟨em, ed, e3, e4, e5, e6⟩ := hX'
  have hW' := hW
  obtain ⟨h7, hn, h4, hd, hK, hA⟩ := hW'
  have hn1 : rn row < 1000 := by omega
  have hd1 : rd row < 1000 := by omega
  obtain ⟨v, hv, eu, e98, eg⟩ := gu
  rcases Nat.eq_zero_or_pos v with h0 | h0
  · subst h0
    have c0 : u = 0 := eu
    have c1 : row 98 = 0 := e98
    have hx : fX0_undo N u ws wt wn wc th ns ct sw rf = some (-3, u, th, ns, ct, sw, ref 1 rf) := by unfold fX0_undo; rw [if_pos c0]; simp only [bnd1_some, bnd2_some, bnd3_some, bnd4_some, bnd5_some, bnd6_some, bnd7_some, bnd8_some, bnd9_some, bnd10_some, bnd11_some, bnd12_some, one_eq_zero, if_true, if_false, x_bad, x_no, x_full, x_badAsk, x_refuses0, m_refuse_bad, m_refuse_no, m_refuse_full, m_badAs, g0_t, g0_f, grd_true, nmd_e, jn1_e]
    have hm : fX5_undo N row rf = some (-3, row, ref 1 rf) := by unfold fX5_undo; rw [if_pos c1]; simp only [bnd1_some, bnd2_some, bnd3_some, bnd4_some, bnd5_some, bnd6_some, bnd7_some, bnd8_some, bnd9_some, bnd10_some, bnd11_some, bnd12_some, one_eq_zero, if_true, if_false, x_bad, x_no, x_full, x_badAsk, x_refuses0, m_refuse_bad, m_refuse_no, m_refuse_full, m_badAs, g0_t, g0_f, grd_true, nmd_e, jn1_e]
    exact ⟨_, _, _, _, _, _, _, _, hx, hm, H⟩
  · obtain ⟨v, rfl⟩ : ∃ v', v = v' + 1 := ⟨v - 1, by omega⟩
    have hne : ¬ u = (0 : Int32) := by rw [eu, cj_0, jI_eq (by omega) (by omega)]; omega
    have e9 : unR (upd row 98 (jI v)) (99 + 10 * v) 10 9 = wc v := by
      unfold unR
      rw [if_pos (by omega), upd_ne (by omega)]; exact (eg v (by omega)).2.2.1
    have hx : fX0_undo N u ws wt wn wc th ns ct sw rf = some (wc v, jI v, wt v, wn v, wc v, va_cpy (ws v) sw 0 0 7, rf) := by
      unfold fX0_undo
      rw [if_neg hne, eu, cj_1, jI_sub (by omega), Nat.add_sub_cancel, grd_lt (by omega) (by omega), jI_nat (by omega), nmd_e, x_takes2, bnd4_some]
    have hm := m_undo (rf := rf) hN (by omega : v < 8) e98
    rw [e9] at hm
    refine ⟨_, _, _, _, _, _, _, _, hx, hm, LR_now H.1 ?_ (GS_sh (b := 99 + 10 * v) h7 ?_ (fun i hi => cpy_at (by omega)) (GS_c h7 (fun _ _ _ => rfl) (eg v (by omega)))) ⟨v, by omega, rfl, ?_, fun k hk => GS_c h7 ?_ (eg k (by omega))⟩, RI_c ?_ gi, gx, gW⟩
    · intro k h1 h2; unfold unR; rw [if_neg (by omega), upd_ne (by omega)]
    · intro j hj; unfold unR; rw [Nat.zero_add, if_pos hj, upd_ne (by omega)]
    · unfold unR; rw [if_neg (by omega), upd_at]
    · intro j h1 h2; unfold unR; rw [if_neg (by omega), upd_ne (by omega)]
    · intro k h1 h2; unfold unR; rw [if_neg (by omega), upd_ne (by omega)]
