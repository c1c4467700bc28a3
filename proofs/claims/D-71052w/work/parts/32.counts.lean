/-! PLAIN LAW 13: counts -/
theorem m_goBy1 {N : Nat} (hN : 1000 ≤ N) {row : Nat → Int32} (hW : WS row) {b : Nat} (hb : b = 0 ∨ b = 537) {n : Nat} (hn : n < 500) (lea : Nat → Int32) : ∃ lea', fX5_goBy N (jI b) (jI n) row lea = some (gR row b (itP (goF b row) n (row (b + 8), row (b + 9))).1 (itP (goF b row) n (row (b + 8), row (b + 9))).2, lea') := by
  obtain ⟨lea', h⟩ := m_goBy hN hW hb hn n 0 N (row (b + 8), row (b + 9)) lea (by omega) (by omega)
  rw [gR_self] at h
  exact ⟨lea', h⟩
theorem x_countsL {N : Nat} (hN : 1000 ≤ N) {m d w th : Int32} {pe au : Nat → Option Nat} {ho si sw row : Nat → Int32} (hW : WS row) (hX : XS m d pe au ho si row) {n : Nat} (hn : n < 500) {ρ : Type} (K : Int32 → Int32 → ρ) : ∀ r k fuel (s : Int32 × Int32), k + r = n → r < fuel → whl3 (fun (x_33 : Int32) (x_34 : Int32) (x_35 : Int32) rec_36 => jn0 (some (K x_34 x_35)) (fun k_42 => if (jI n) ≤ x_33 then k_42 else if (9999 : Int32) ≤ x_35 then k_42 else bnd2 (fX1_passes N w m d th x_34 x_35 ho pe sw si au) (fun (o_44 : Int32) (o_45 : Int32) => rec_36 (x_33 + (1 : Int32)) o_44 o_45))) fuel (jI k) s.1 s.2 = some (K (itP (passC row sw th w) r s).1 (itP (passC row sw th w) r s).2) := by
  intro r
  induction r with
  | zero =>
    intro k fuel s hk hf
    obtain ⟨fuel, rfl⟩ : ∃ f, fuel = f + 1 := ⟨fuel - 1, by omega⟩
    simp only [whl3, jn0_e]
    rw [if_pos (by rw [jI_le (by omega) (by omega)]; omega)]
    rfl
  | succ r ih =>
    intro k fuel s hk hf
    obtain ⟨fuel, rfl⟩ : ∃ f, fuel = f + 1 := ⟨fuel - 1, by omega⟩
    have hle : ¬ jI n ≤ jI k := by rw [jI_le (by omega) (by omega)]; omega
    by_cases hc : s.2 < 9999
    · have hi := ih (k + 1) fuel (passS row sw th w s) (by omega) (by omega)
      have key : itP (passC row sw th w) (r + 1) s = itP (passC row sw th w) r (passS row sw th w s) := by
        show itP _ r (passC row sw th w s) = _
        unfold passC; rw [if_pos hc]
      rw [key, ← hi]
      simp only [whl3, jn0_e]
      rw [if_neg hle, if_neg (lt_not32 hc), x_passes hN hW hX, bnd2_some, jI_1]
    · rw [itC_stop hc]
      simp only [whl3, jn0_e]
      rw [if_neg hle, if_pos (not_lt32 hc)]
theorem goF0 (row : Nat → Int32) : goF 0 row = passC row row (row 7) (row 10) := by
  unfold goF; rw [if_pos rfl, row0]
theorem passS_cong {row sw sw' : Nat → Int32} {there w : Int32} (h : ∀ i, i < rn row → sw i = sw' i) : passS row sw there w = passS row sw' there w := by
  funext s; unfold passS; rw [soundS_cong h]
theorem passC_cong {row sw sw' : Nat → Int32} {there w : Int32} (h : ∀ i, i < rn row → sw i = sw' i) : passC row sw there w = passC row sw' there w := by
  funext s; unfold passC; rw [passS_cong h]
theorem passS_row {row row' sw : Nat → Int32} {there w : Int32} (hW : WS row) (e : ∀ k, 11 ≤ k → k < 35 → row' k = row k) : passS row' sw there w = passS row sw there w := by
  funext s; unfold passS; rw [soundS_row hW e]
theorem passC_row {row row' sw : Nat → Int32} {there w : Int32} (hW : WS row) (e : ∀ k, 11 ≤ k → k < 35 → row' k = row k) : passC row' sw there w = passC row sw there w := by
  funext s; unfold passC; rw [passS_row hW e]
theorem GS_gR {n d : Nat} {th ns ct n2 c2 : Int32} {sw ρ : Nat → Int32} (hn : n ≤ 7) (g : GS n d 0 th ns ct sw ρ) : GS n d 0 th n2 c2 sw (gR ρ 0 n2 c2) := by
  obtain ⟨e7, e8, e9, hs1, hw⟩ := g
  refine ⟨?_, gR_8 _ _ _ _, gR_9 _ _ _ _, hs1, ?_⟩
  · rw [gR_ne (by omega) (by omega)]; exact e7
  · intro j hj
    rw [gR_ne (by omega) (by omega)]; exact hw j hj
theorem op_counts {N : Nat} (hN : 1000 ≤ N) {w : Int32} {m : Int32} {d : Int32} {h : Int32} {t : Int32} {q : Int32} {u : Int32} {pe : Nat → Option Nat} {ho : Nat → Int32} {au : Nat → Option Nat} {si : Nat → Int32} {he : Nat → Int32} {no : Nat → Int32} {ma : Nat → Int32} {th : Int32} {ns : Int32} {ct : Int32} {sw : Nat → Int32} {ws : Nat → Nat → Int32} {wt : Nat → Int32} {wn : Nat → Int32} {wc : Nat → Int32} {im : Nat → Option LT} {tx : Nat → Int32} {ty : Int32} {row kept words : Nat → Int32} (H : RR (w, m, d, h, t, q, u, pe, ho, au, si, he, no, ma, th, ns, ct, sw, ws, wt, wn, wc) im tx ty row kept words) (p1 : Int32) (rf : Nat → Int32) (lea : Nat → Int32) : ∃ (r : Int32) (u' : Int32) (ws' : Nat → Nat → Int32) (wt' : Nat → Int32) (wn' : Nat → Int32) (wc' : Nat → Int32) (ns' : Int32) (ct' : Int32) (rf' : Nat → Int32) (row' : Nat → Int32) (lea' : Nat → Int32), fX0_counts N p1 w m d u ws wt wn wc th ns ct sw ho pe si au rf = some (r, u', ws', wt', wn', wc', ns', ct', rf') ∧ fX5_counts N p1 row lea rf = some (r, row', lea', rf') ∧ RR (w, m, d, h, t, q, u', pe, ho, au, si, he, no, ma, th, ns', ct', sw, ws', wt', wn', wc') im tx ty row' kept words := by
  have H' := H
  obtain ⟨⟨ga, gw, gh, gt, gq, gs, gu⟩, gi, gx, gW⟩ := H'
  have ga' := ga
  obtain ⟨hW, hX, okp, oka, h01⟩ := ga'
  have hX' := hX
  obtain ⟨em, ed, e3, e4, e5, e6⟩ := hX'
  have hW' := hW
  obtain ⟨h7, hn, h4, hd, hK, hA⟩ := hW'
  have hn1 : rn row < 1000 := by omega
  have hd1 : rd row < 1000 := by omega
  by_cases hb : inR p1 1 99
  · obtain ⟨n, ep, hi, hh⟩ := inR_nat (b := 99) ⟨by have := hb.1; omega, hb.2⟩
    obtain ⟨u', ws', wt', wn', wc', row', hx1, hm1, el, eh, gu'⟩ := rem_both hN h7 gs gu
    have e' : ∀ k, 11 ≤ k → k < 35 → row' k = row k := fun k h1 h2 => el k (by omega)
    have hW2 : WS row' := WS_c e' hW
    have gs2 : GS (rn row) (rd row) 0 th ns ct sw row' := GS_c h7 (fun k h1 h2 => el k (by omega)) gs
    obtain ⟨lea1, hg⟩ := m_goBy1 hN hW2 (Or.inl rfl : 0 = 0 ∨ 0 = 537) (by omega : n < 500) lea
    have x1 := x_countsL (th := th) (w := w) (sw := sw) hN hW hX (by omega : n < 500) (fun a b => (a, u', ws', wt', wn', wc', a, b, rf)) n 0 N (ns, ct) (by omega) (by omega)
    have r7 : row' 7 = th := gs2.1
    have r8 : row' (0 + 8) = ns := gs2.2.1
    have r9 : row' (0 + 9) = ct := gs2.2.2.1
    have r10 : row' 10 = w := by rw [el 10 (by omega)]; exact gw.1
    have ec : passC row sw th w = goF 0 row' := by
      rw [goF0, r7, r10, passC_row hW e']
      apply passC_cong
      intro i hi
      have := (gs2.2.2.2.2 i hi).1
      rwa [Nat.zero_add] at this
    rw [r8, r9, ← ec] at hg
    have hx : fX0_counts N p1 w m d u ws wt wn wc th ns ct sw ho pe si au rf = some ((itP (passC row sw th w) n (ns, ct)).1, u', ws', wt', wn', wc', (itP (passC row sw th w) n (ns, ct)).1, (itP (passC row sw th w) n (ns, ct)).2, rf) := by
      unfold fX0_counts; simp only [bnd1_some, bnd2_some, bnd3_some, bnd4_some, bnd5_some, bnd6_some, bnd7_some, bnd8_some, bnd9_some, bnd10_some, bnd11_some, bnd12_some, one_eq_zero, if_true, if_false, x_bad, x_no, x_full, x_badAsk, x_refuses0, m_refuse_bad, m_refuse_no, m_refuse_full, m_badAs, g0_t, g0_f, grd_true, nmd_e, jn1_e, in0_1_99_t N hb, hx1]
      rw [ep]
      exact x1
    have hm : fX5_counts N p1 row lea rf = some ((itP (passC row sw th w) n (ns, ct)).1, gR row' 0 (itP (passC row sw th w) n (ns, ct)).1 (itP (passC row sw th w) n (ns, ct)).2, lea1, rf) := by
      unfold fX5_counts; simp only [bnd1_some, bnd2_some, bnd3_some, bnd4_some, bnd5_some, bnd6_some, bnd7_some, bnd8_some, bnd9_some, bnd10_some, bnd11_some, bnd12_some, one_eq_zero, if_true, if_false, x_bad, x_no, x_full, x_badAsk, x_refuses0, m_refuse_bad, m_refuse_no, m_refuse_full, m_badAs, g0_t, g0_f, grd_true, nmd_e, jn1_e, in5_1_99_t N hb, hm1]
      rw [ep, cj_0, hg, bnd2_some]
      rfl
    refine ⟨_, _, _, _, _, _, _, _, _, _, _, hx, hm, LR_now H.1 ?_ (GS_gR h7 gs2) (GU_c h7 ?_ gu'), RI_c ?_ gi, gx, gW⟩
    · intro k h1 h2; rw [gR_ne (by omega) (by omega)]; exact el k h2
    · intro k h1 h2; rw [gR_ne (by omega) (by omega)]
    · intro k h1 h2; rw [gR_ne (by omega) (by omega)]; exact eh k h1
  · exact ⟨_, _, _, _, _, _, _, _, _, _, _, (by unfold fX0_counts; simp only [bnd1_some, bnd2_some, bnd3_some, bnd4_some, bnd5_some, bnd6_some, bnd7_some, bnd8_some, bnd9_some, bnd10_some, bnd11_some, bnd12_some, one_eq_zero, if_true, if_false, x_bad, x_no, x_full, x_badAsk, x_refuses0, m_refuse_bad, m_refuse_no, m_refuse_full, m_badAs, g0_t, g0_f, grd_true, nmd_e, jn1_e, in0_1_99_f N hb] : fX0_counts N p1 w m d u ws wt wn wc th ns ct sw ho pe si au rf = some (-2, u, ws, wt, wn, wc, ns, ct, ref 0 rf)), (by unfold fX5_counts; simp only [bnd1_some, bnd2_some, bnd3_some, bnd4_some, bnd5_some, bnd6_some, bnd7_some, bnd8_some, bnd9_some, bnd10_some, bnd11_some, bnd12_some, one_eq_zero, if_true, if_false, x_bad, x_no, x_full, x_badAsk, x_refuses0, m_refuse_bad, m_refuse_no, m_refuse_full, m_badAs, g0_t, g0_f, grd_true, nmd_e, jn1_e, in5_1_99_f N hb] : fX5_counts N p1 row lea rf = some (-2, row, lea, ref 0 rf)), H⟩
