/-! PLAIN LAW 14: what is tried: then, entry -/
theorem m_tried {N : Nat} (hN : 1000 ≤ N) (row : Nat → Int32) : fX5_layTried N row = some (cpR row 537 10) := by
  unfold fX5_layTried
  have := whl2_seq (step := (fun (x_7 : Int32) (a_8 : Nat → Int32) rec_9 => if (10 : Int32) ≤ x_7 then some a_8 else grd (¬ (x_7 < 0 ∨ 547 ≤ x_7.toNatClampNeg)) (grd (¬ (((537 : Int32) + x_7) < 0 ∨ 547 ≤ ((537 : Int32) + x_7).toNatClampNeg)) (nmd (upd a_8 ((537 : Int32) + x_7).toNatClampNeg (a_8 x_7.toNatClampNeg)) (fun f_13 => rec_9 (x_7 + (1 : Int32)) f_13))))) (fun i => jI i) (fun i => cpR row 537 i) 10 ?_ N (by omega)
  · rw [cpR_0] at this
    refine this.trans ?_
    simp (disch := omega) only [grd_pos, grd_true, jI_le, jI_lt, jI_eq, jI_nat, jI_add, jI_mul, if_pos, if_neg, bnd1_some, bnd2_some, bnd3_some, bnd4_some, bnd5_some, bnd6_some, bnd7_some, nmd_e, true_and, and_true, cj_0, cj_1, cj_2, cj_3, cj_4, cj_5, cj_6, cj_7, cj_8, cj_9, cj_10, cj_11, cj_12, cj_13, cj_14, cj_15, cj_16, cj_19, cj_20, cj_23, cj_24, cj_26, cj_27, cj_28, cj_30, cj_31, cj_32, cj_35, cj_36, cj_37, cj_48, cj_49, cj_50, cj_51, cj_52, cj_57, cj_59, cj_60, cj_61, cj_73, cj_74, cj_75, cj_76, cj_77, cj_90, cj_97, cj_98, cj_99, cj_100, cj_109, cj_120, cj_122, cj_127, cj_150, cj_160, cj_179, cj_537, cj_547, cj_916, cj_9999, cj_1000000, cj_999999]
  · intro i hi rec
    simp (disch := omega) only [grd_pos, grd_true, jI_le, jI_lt, jI_eq, jI_nat, jI_add, jI_mul, if_pos, if_neg, bnd1_some, bnd2_some, bnd3_some, bnd4_some, bnd5_some, bnd6_some, bnd7_some, nmd_e, true_and, and_true, cj_0, cj_1, cj_2, cj_3, cj_4, cj_5, cj_6, cj_7, cj_8, cj_9, cj_10, cj_11, cj_12, cj_13, cj_14, cj_15, cj_16, cj_19, cj_20, cj_23, cj_24, cj_26, cj_27, cj_28, cj_30, cj_31, cj_32, cj_35, cj_36, cj_37, cj_48, cj_49, cj_50, cj_51, cj_52, cj_57, cj_59, cj_60, cj_61, cj_73, cj_74, cj_75, cj_76, cj_77, cj_90, cj_97, cj_98, cj_99, cj_100, cj_109, cj_120, cj_122, cj_127, cj_150, cj_160, cj_179, cj_537, cj_547, cj_916, cj_9999, cj_1000000, cj_999999]
    rw [cpR_upd (by omega)]
theorem x_thenL {N : Nat} (hN : 1000 ≤ N) {m d w th : Int32} {pe au : Nat → Option Nat} {ho si sw row : Nat → Int32} (hW : WS row) (hX : XS m d pe au ho si row) {n : Nat} (hn : n < 500) {ρ : Type} (K : Int32 → Int32 → ρ) : ∀ r k fuel (s : Int32 × Int32), k + r = n → r < fuel → whl3 (fun (x_33 : Int32) (x_34 : Int32) (x_35 : Int32) rec_36 => if (jI n) ≤ x_33 then some (K x_34 x_35) else bnd2 (fX1_passes N w m d th x_34 x_35 ho pe sw si au) (fun (o_44 : Int32) (o_45 : Int32) => rec_36 (x_33 + (1 : Int32)) o_44 o_45)) fuel (jI k) s.1 s.2 = some (K (itP (passS row sw th w) r s).1 (itP (passS row sw th w) r s).2) := by
  intro r
  induction r with
  | zero =>
    intro k fuel s hk hf
    obtain ⟨fuel, rfl⟩ : ∃ f, fuel = f + 1 := ⟨fuel - 1, by omega⟩
    simp only [whl3]
    rw [if_pos (by rw [jI_le (by omega) (by omega)]; omega)]
    rfl
  | succ r ih =>
    intro k fuel s hk hf
    obtain ⟨fuel, rfl⟩ : ∃ f, fuel = f + 1 := ⟨fuel - 1, by omega⟩
    have hle : ¬ jI n ≤ jI k := by rw [jI_le (by omega) (by omega)]; omega
    have hi := ih (k + 1) fuel (passS row sw th w s) (by omega) (by omega)
    have key : itP (passS row sw th w) (r + 1) s = itP (passS row sw th w) r (passS row sw th w s) := rfl
    rw [key, ← hi]
    simp only [whl3]
    rw [if_neg hle, x_passes hN hW hX, bnd2_some, jI_1]
theorem goF537 (row : Nat → Int32) : goF 537 row = passS row (fun i => row (537 + i)) (row (537 + 7)) (row 10) := by
  unfold goF; rw [if_neg (by omega)]
theorem op_then {N : Nat} (hN : 1000 ≤ N) {w : Int32} {m : Int32} {d : Int32} {h : Int32} {t : Int32} {q : Int32} {u : Int32} {pe : Nat → Option Nat} {ho : Nat → Int32} {au : Nat → Option Nat} {si : Nat → Int32} {he : Nat → Int32} {no : Nat → Int32} {ma : Nat → Int32} {th : Int32} {ns : Int32} {ct : Int32} {sw : Nat → Int32} {ws : Nat → Nat → Int32} {wt : Nat → Int32} {wn : Nat → Int32} {wc : Nat → Int32} {im : Nat → Option LT} {tx : Nat → Int32} {ty : Int32} {row kept words : Nat → Int32} (H : RR (w, m, d, h, t, q, u, pe, ho, au, si, he, no, ma, th, ns, ct, sw, ws, wt, wn, wc) im tx ty row kept words) (p1 : Int32) (tth : Int32) (tns : Int32) (tct : Int32) (tsw : Nat → Int32) (rf : Nat → Int32) (lea : Nat → Int32) : ∃ (r : Int32) (tth' : Int32) (tns' : Int32) (tct' : Int32) (tsw' : Nat → Int32) (rf' : Nat → Int32) (row' : Nat → Int32) (lea' : Nat → Int32), fX0_then N p1 w m d tth tns tct th ns ct tsw sw ho pe si au rf = some (r, tth', tns', tct', tsw', rf') ∧ fX5_then N p1 row lea rf = some (r, row', lea', rf') ∧ RR (w, m, d, h, t, q, u, pe, ho, au, si, he, no, ma, th, ns, ct, sw, ws, wt, wn, wc) im tx ty row' kept words := by
  have H' := H
  obtain ⟨⟨ga, gw, gh, gt, gq, gs, gu⟩, gi, gx, gW⟩ := H'
  have ga' := ga
  obtain ⟨hW, hX, okp, oka, h01⟩ := ga'
  have hX' := hX
  obtain ⟨em, ed, e3, e4, e5, e6⟩ := hX'
  have hW' := hW
  obtain ⟨h7, hn, h4, hd, hK, hA⟩ := hW'
  have hn1 : rn row < 1000 := by omega
  have hd1 : rd row < 1000 := by omega
  by_cases hb : inR p1 0 60
  · obtain ⟨n, ep, hi, hh⟩ := inR_nat hb
    have e' : ∀ k, 11 ≤ k → k < 35 → cpR row 537 10 k = row k := fun k h1 h2 => cpR_lo (by omega)
    have hW2 : WS (cpR row 537 10) := WS_c e' hW
    obtain ⟨lea1, hg⟩ := m_goBy1 hN hW2 (Or.inr rfl : 537 = 0 ∨ 537 = 537) (by omega : n < 500) lea
    have x1 := x_thenL (th := th) (w := w) (sw := va_cpy sw tsw 0 0 7) hN hW hX (by omega : n < 500) (fun a b => (a, th, a, b, va_cpy sw tsw 0 0 7, rf)) n 0 N (ns, ct) (by omega) (by omega)
    have r7 : cpR row 537 10 (537 + 7) = th := by rw [cpR_in (by omega)]; exact gs.1
    have r8 : cpR row 537 10 (537 + 8) = ns := by rw [cpR_in (by omega)]; exact gs.2.1
    have r9 : cpR row 537 10 (537 + 9) = ct := by rw [cpR_in (by omega)]; exact gs.2.2.1
    have r10 : cpR row 537 10 10 = w := by rw [cpR_lo (by omega)]; exact gw.1
    have ec : passS row (va_cpy sw tsw 0 0 7) th w = goF 537 (cpR row 537 10) := by
      rw [goF537, r7, r10, passS_row hW e']
      apply passS_cong
      intro i hi
      have := (gs.2.2.2.2 i hi).1
      rw [Nat.zero_add] at this
      rw [cpy_at (by omega), this]
      exact (cpR_in (by omega)).symm
    rw [r8, r9, ← ec] at hg
    have hx : fX0_then N p1 w m d tth tns tct th ns ct tsw sw ho pe si au rf = some ((itP (passS row (va_cpy sw tsw 0 0 7) th w) n (ns, ct)).1, th, (itP (passS row (va_cpy sw tsw 0 0 7) th w) n (ns, ct)).1, (itP (passS row (va_cpy sw tsw 0 0 7) th w) n (ns, ct)).2, va_cpy sw tsw 0 0 7, rf) := by
      unfold fX0_then; simp only [bnd1_some, bnd2_some, bnd3_some, bnd4_some, bnd5_some, bnd6_some, bnd7_some, bnd8_some, bnd9_some, bnd10_some, bnd11_some, bnd12_some, one_eq_zero, if_true, if_false, x_bad, x_no, x_full, x_badAsk, x_refuses0, m_refuse_bad, m_refuse_no, m_refuse_full, m_badAs, g0_t, g0_f, grd_true, nmd_e, jn1_e, in0_0_60_t N hb, x_takes2]
      rw [ep]
      exact x1
    have hm : fX5_then N p1 row lea rf = some ((itP (passS row (va_cpy sw tsw 0 0 7) th w) n (ns, ct)).1, gR (cpR row 537 10) 537 (itP (passS row (va_cpy sw tsw 0 0 7) th w) n (ns, ct)).1 (itP (passS row (va_cpy sw tsw 0 0 7) th w) n (ns, ct)).2, lea1, rf) := by
      unfold fX5_then; simp only [bnd1_some, bnd2_some, bnd3_some, bnd4_some, bnd5_some, bnd6_some, bnd7_some, bnd8_some, bnd9_some, bnd10_some, bnd11_some, bnd12_some, one_eq_zero, if_true, if_false, x_bad, x_no, x_full, x_badAsk, x_refuses0, m_refuse_bad, m_refuse_no, m_refuse_full, m_badAs, g0_t, g0_f, grd_true, nmd_e, jn1_e, in5_0_60_t N hb, m_tried hN]
      rw [ep, cj_537, hg, bnd2_some]
      rfl
    refine ⟨_, _, _, _, _, _, _, _, hx, hm, RR_s ?_ H⟩
    intro k hk; rw [gR_ne (by omega) (by omega), cpR_lo (by omega)]
  · exact ⟨_, _, _, _, _, _, _, _, (by unfold fX0_then; simp only [bnd1_some, bnd2_some, bnd3_some, bnd4_some, bnd5_some, bnd6_some, bnd7_some, bnd8_some, bnd9_some, bnd10_some, bnd11_some, bnd12_some, one_eq_zero, if_true, if_false, x_bad, x_no, x_full, x_badAsk, x_refuses0, m_refuse_bad, m_refuse_no, m_refuse_full, m_badAs, g0_t, g0_f, grd_true, nmd_e, jn1_e, in0_0_60_f N hb] : fX0_then N p1 w m d tth tns tct th ns ct tsw sw ho pe si au rf = some (-2, tth, tns, tct, tsw, ref 0 rf)), (by unfold fX5_then; simp only [bnd1_some, bnd2_some, bnd3_some, bnd4_some, bnd5_some, bnd6_some, bnd7_some, bnd8_some, bnd9_some, bnd10_some, bnd11_some, bnd12_some, one_eq_zero, if_true, if_false, x_bad, x_no, x_full, x_badAsk, x_refuses0, m_refuse_bad, m_refuse_no, m_refuse_full, m_badAs, g0_t, g0_f, grd_true, nmd_e, jn1_e, in5_0_60_f N hb] : fX5_then N p1 row lea rf = some (-2, row, lea, ref 0 rf)), H⟩
def findS (f : Nat → Int32) : Nat → Nat → Int32
  | 0, _ => -1
  | r + 1, k => if f k ≤ 0 then findS f r (k + 1) else jI k
theorem lt_le32 (a b : Int32) : (a < b) = ¬ (b ≤ a) := by
  rw [Int32.le_iff_toInt_le, Int32.lt_iff_toInt_lt]; exact propext ⟨fun h => by omega, fun h => by omega⟩
theorem op_entry {N : Nat} (hN : 1000 ≤ N) {w : Int32} {m : Int32} {d : Int32} {h : Int32} {t : Int32} {q : Int32} {u : Int32} {pe : Nat → Option Nat} {ho : Nat → Int32} {au : Nat → Option Nat} {si : Nat → Int32} {he : Nat → Int32} {no : Nat → Int32} {ma : Nat → Int32} {th : Int32} {ns : Int32} {ct : Int32} {sw : Nat → Int32} {ws : Nat → Nat → Int32} {wt : Nat → Int32} {wn : Nat → Int32} {wc : Nat → Int32} {im : Nat → Option LT} {tx : Nat → Int32} {ty : Int32} {row kept words : Nat → Int32} (H : RR (w, m, d, h, t, q, u, pe, ho, au, si, he, no, ma, th, ns, ct, sw, ws, wt, wn, wc) im tx ty row kept words)  (lea : Nat → Int32) : ∃ (r : Int32) (lea' : Nat → Int32), fX0_entry N w m d th ct ho pe sw si au = some r ∧ fX5_entry N row lea = some (r, lea') ∧ RR (w, m, d, h, t, q, u, pe, ho, au, si, he, no, ma, th, ns, ct, sw, ws, wt, wn, wc) im tx ty row kept words := by
  have H' := H
  obtain ⟨⟨ga, gw, gh, gt, gq, gs, gu⟩, gi, gx, gW⟩ := H'
  have ga' := ga
  obtain ⟨hW, hX, okp, oka, h01⟩ := ga'
  have hX' := hX
  obtain ⟨em, ed, e3, e4, e5, e6⟩ := hX'
  have hW' := hW
  obtain ⟨h7, hn, h4, hd, hK, hA⟩ := hW'
  have hn1 : rn row < 1000 := by omega
  have hd1 : rd row < 1000 := by omega
  have e7 : row 7 = th := gs.1
  have e9 : row 9 = ct := gs.2.2.1
  have es : ∀ i, i < rn row → sw i = row i := fun i hi => by have := (gs.2.2.2.2 i hi).1; rwa [Nat.zero_add] at this
  have hs : ∀ c, fX1_sound N c w m d ho pe th sw si au = some (soundS row row (row 7) (row 10) c (-1)) := fun c => x_snd hN hW hX (sw := sw) c es gs.1 gw.1
  have hx : ∀ r k fuel, k + r = 61 → r < fuel → whl1 (fun (x_9 : Int32) rec_10 => if (60 : Int32) < x_9 then some (-1 : Int32) else bnd1 (fX1_sound N (ct + x_9) w m d ho pe th sw si au) (fun (r_12 : Int32) => if r_12 ≤ (0 : Int32) then rec_10 (x_9 + (1 : Int32)) else some x_9)) fuel (jI k) = some (findS (fun k => soundS row row (row 7) (row 10) (ct + jI k) (-1)) r k) := by
    intro r
    induction r with
    | zero =>
      intro k fuel hk hf
      obtain ⟨fuel, rfl⟩ : ∃ f, fuel = f + 1 := ⟨fuel - 1, by omega⟩
      simp only [whl1]
      rw [if_pos (by rw [cj_60, jI_lt (by omega) (by omega)]; omega)]
      rfl
    | succ r ih =>
      intro k fuel hk hf
      obtain ⟨fuel, rfl⟩ : ∃ f, fuel = f + 1 := ⟨fuel - 1, by omega⟩
      simp only [whl1]
      rw [if_neg (by rw [cj_60, jI_lt (by omega) (by omega)]; omega), hs, bnd1_some, jI_1, ih (k + 1) fuel (by omega) (by omega)]
      refine ites (fun hp => ?_) (fun hp => ?_)
      · rfl
      · rfl
  have hm : ∀ r k fuel lea, k + r = 61 → r < fuel → ∃ lea', whl2 (fun (x_12 : Int32) (a_13 : Nat → Int32) rec_14 => if (61 : Int32) ≤ x_12 then some ((-1 : Int32), a_13) else bnd2 (fX5_soundAt N (0 : Int32) ((row 9) + x_12) row a_13) (fun (r_16 : Int32) (o_17 : Nat → Int32) => if r_16 ≤ (0 : Int32) then rec_14 (x_12 + (1 : Int32)) o_17 else some (x_12, o_17))) fuel (jI k) lea = some (findS (fun k => soundS row row (row 7) (row 10) (ct + jI k) (-1)) r k, lea') := by
    intro r
    induction r with
    | zero =>
      intro k fuel lea hk hf
      obtain ⟨fuel, rfl⟩ : ∃ f, fuel = f + 1 := ⟨fuel - 1, by omega⟩
      refine ⟨lea, ?_⟩
      simp only [whl2]
      rw [if_pos (by rw [cj_61, jI_le (by omega) (by omega)]; omega)]
      rfl
    | succ r ih =>
      intro k fuel lea hk hf
      obtain ⟨fuel, rfl⟩ : ∃ f, fuel = f + 1 := ⟨fuel - 1, by omega⟩
      obtain ⟨lea1, hl⟩ := m_snd hN hW (ct + jI k) lea
      obtain ⟨lea2, hi⟩ := ih (k + 1) fuel lea1 (by omega) (by omega)
      rw [e9] at hi
      by_cases hp : soundS row row (row 7) (row 10) (ct + jI k) (-1) ≤ 0
      · refine ⟨lea2, ?_⟩
        simp only [whl2]
        rw [if_neg (by rw [cj_61, jI_le (by omega) (by omega)]; omega), e9, hl, bnd2_some, jI_1, if_pos hp, hi]
        simp only [findS]
        rw [if_pos hp]
      · refine ⟨lea1, ?_⟩
        simp only [whl2]
        rw [if_neg (by rw [cj_61, jI_le (by omega) (by omega)]; omega), e9, hl, bnd2_some, if_neg hp]
        simp only [findS]
        rw [if_neg hp]
  obtain ⟨lea', h2⟩ := hm 61 0 N lea (by omega) (by omega)
  exact ⟨_, _, hx 61 0 N (by omega) (by omega), h2, H⟩
