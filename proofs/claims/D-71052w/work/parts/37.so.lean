/-! PLAIN LAW 18: what was heard: lanes, swung -/
def soF (row sw : Nat → Int32) (th w : Int32) (k : Nat) : Int32 := if (if soundS row sw th w (row (36 + 2 * k)) (-1) ≤ 0 then (0 : Int32) else 1) = (if row (36 + 2 * k + 1) = 1 then (1 : Int32) else 0) then 0 else 1
def soS (row sw : Nat → Int32) (th w : Int32) : Int32 := allZ (soF row sw th w) (row 35).toNatClampNeg 0
theorem soS_cong {row sw sw' : Nat → Int32} {th w : Int32} (h : ∀ i, i < rn row → sw i = sw' i) : soS row sw th w = soS row sw' th w := by
  unfold soS
  apply allZ_c
  intro k
  unfold soF
  rw [soundS_cong h]
theorem soS_upd {row a : Nat → Int32} {i : Nat} {th w v : Int32} (h : ∀ j, j < rn row → ¬ j = i → a j = row j) : soS row (upd a i v) th w = soS row (upd row i v) th w := by
  apply soS_cong
  intro j hj
  by_cases e : j = i
  · subst e; rw [upd_at, upd_at]
  · rw [upd_ne e, upd_ne e]; exact h j hj e
theorem soF_case (row sw : Nat → Int32) (th w : Int32) (k : Nat) {ρ : Type} {Q : Option ρ → Prop} {A B : Option ρ} (ha : soF row sw th w k = 0 → Q A) (hb : ¬ soF row sw th w k = 0 → Q B) : Q (if soundS row sw th w (row (36 + 2 * k)) (-1) ≤ 0 then (if row (36 + 2 * k + 1) = 1 then B else A) else (if row (36 + 2 * k + 1) = 1 then A else B)) := by
  unfold soF at ha hb
  by_cases h1 : soundS row sw th w (row (36 + 2 * k)) (-1) ≤ 0
  · by_cases h2 : row (36 + 2 * k + 1) = 1
    · simp only [h1, h2, if_true, zero_eq_one, if_false] at ha hb ⊢
      exact hb (by decide)
    · simp only [h1, h2, if_true, zero_eq_one, if_false] at ha hb ⊢
      exact ha trivial
  · by_cases h2 : row (36 + 2 * k + 1) = 1
    · simp only [h1, h2, if_true, zero_eq_one, if_false] at ha hb ⊢
      exact ha trivial
    · simp only [h1, h2, if_true, one_eq_zero, if_false] at ha hb ⊢
      exact hb (by decide)
theorem x_isSo {N : Nat} (hN : 1000 ≤ N) {m d w th h : Int32} {pe au : Nat → Option Nat} {ho si sw he row : Nat → Int32} (hW : WS row) (hX : XS m d pe au ho si row) (hL : GL 35 2 h he row) : fX0_isSo N w m d h he ho pe th sw si au = some (soS row sw th w) := by
  obtain ⟨n, h6, eh, e35, ehe⟩ := hL
  have en : (row 35).toNatClampNeg = n := by rw [e35, jI_nat (by omega)]
  obtain ⟨V, hV⟩ : ∃ V, soS row sw th w = V := ⟨_, rfl⟩
  have hV2 : allZ (soF row sw th w) n 0 = V := by rw [← hV]; unfold soS; rw [en]
  rw [hV]
  obtain ⟨Q, hQ⟩ : ∃ Q : Option (Int32) → Prop, Q = fun X => X = some V := ⟨_, rfl⟩
  have hq : Q (fX0_isSo N w m d h he ho pe th sw si au) := by
    unfold fX0_isSo
    refine whl2_Q Q (fun k x y => (x = jI k ∧ y = 1 ∧ allZ (soF row sw th w) (n - k) k = V) ∨ (x = jI k ∧ y = 0 ∧ V = 0)) n ?_ N (by omega) _ _ (Or.inl ⟨rfl, rfl, hV2⟩)
    intro k hk x y hp rec hr
    rcases hp with ⟨rfl, rfl, hg⟩ | ⟨rfl, rfl, hg⟩
    · rw [if10]
      by_cases hlt : k < n
      · have e2 : (2 : Int32) * jI k = jI (2 * k) := jI_mul 2 k
        rw [if_neg (nle eh hlt (by omega)), e2, grd_lt (by omega) (by omega), jI_nat (by omega), x_soundBut (by omega) hW hX, bnd1_some]
        simp only [jn1_e, jn0_e, one_eq_zero, zero_eq_one, if_true, if_false]
        rw [jI_1 (2 * k), grd_lt (by omega) (by omega), grd_lt (by omega) (by omega), jI_nat (by omega), (ehe (2 * k) (by omega)).trans (congrArg row (by omega : 35 + 1 + 2 * k = 36 + 2 * k)), (ehe (2 * k + 1) (by omega)).trans (congrArg row (by omega : 35 + 1 + (2 * k + 1) = 36 + 2 * k + 1))]
        refine soF_case row sw th w k (fun hz => ?_) (fun hz => ?_)
        · exact hr hlt _ _ (Or.inl ⟨jI_1 k, rfl, allZ_go hlt hz hg⟩)
        · exact hr hlt _ _ (Or.inr ⟨jI_1 k, rfl, (allZ_at hlt hz hg).symm⟩)
      · rw [if_pos (ple eh (by omega) (by omega)), hQ, g0_t, allZ_end hlt hg]
    · rw [if00, g0_f]
      refine orQ (fun _ => ?_) (fun _ => ?_)
      all_goals rw [hQ, hg]
  rw [hQ] at hq; exact hq
theorem m_isSo {N : Nat} (hN : 1000 ≤ N) {b w th : Int32} {sw row ρ : Nat → Int32} (hs : ∀ c lea, ∃ lea', fX5_soundBy N b w c (-1) ρ lea = some (soundS row sw th w c (-1), lea')) (h6 : ∃ n, n ≤ 6 ∧ row 35 = jI n) (hρ : ∀ k, 35 ≤ k → k < 48 → ρ k = row k) (lea : Nat → Int32) : ∃ lea', fX5_isHeardSo N b w ρ lea = some (soS row sw th w, lea') := by
  obtain ⟨n, h6, e35⟩ := h6
  have en : (row 35).toNatClampNeg = n := by rw [e35, jI_nat (by omega)]
  have er : ρ 35 = jI n := by rw [hρ 35 (by omega) (by omega), e35]
  obtain ⟨V, hV⟩ : ∃ V, soS row sw th w = V := ⟨_, rfl⟩
  have hV2 : allZ (soF row sw th w) n 0 = V := by rw [← hV]; unfold soS; rw [en]
  rw [hV]
  obtain ⟨Q, hQ⟩ : ∃ Q : Option (Int32 × (Nat → Int32)) → Prop, Q = fun X => ∃ lea', X = some (V, lea') := ⟨_, rfl⟩
  have hq : Q (fX5_isHeardSo N b w ρ lea) := by
    unfold fX5_isHeardSo
    refine whl3_Q Q (fun k x y _ => (x = jI k ∧ y = 1 ∧ allZ (soF row sw th w) (n - k) k = V) ∨ (x = jI k ∧ y = 0 ∧ V = 0)) n ?_ N (by omega) _ _ _ (Or.inl ⟨rfl, rfl, hV2⟩)
    intro k hk x y l hp rec hr
    rcases hp with ⟨rfl, rfl, hg⟩ | ⟨rfl, rfl, hg⟩
    · rw [if10]
      by_cases hlt : k < n
      · have e2 : (36 : Int32) + (2 : Int32) * jI k = jI (36 + 2 * k) := by rw [cj_2, jI_mul, cj_36, jI_add]
        obtain ⟨l', hl⟩ := hs (row (36 + 2 * k)) l
        rw [if_neg (nle er hlt (by omega)), e2, grd_lt (by omega) (by omega), jI_nat (by omega), hρ (36 + 2 * k) (by omega) (by omega), hl, bnd2_some]
        simp only [jn1_e, jn0_e, one_eq_zero, zero_eq_one, if_true, if_false]
        rw [jI_1 (36 + 2 * k), grd_lt (by omega) (by omega), grd_lt (by omega) (by omega), jI_nat (by omega), hρ (36 + 2 * k + 1) (by omega) (by omega)]
        refine soF_case row sw th w k (fun hz => ?_) (fun hz => ?_)
        · exact hr hlt _ _ _ (Or.inl ⟨jI_1 k, rfl, allZ_go hlt hz hg⟩)
        · exact hr hlt _ _ _ (Or.inr ⟨jI_1 k, rfl, (allZ_at hlt hz hg).symm⟩)
      · rw [if_pos (ple er (by omega) (by omega)), hQ, g0_t, allZ_end hlt hg]
        exact ⟨_, rfl⟩
    · rw [if00, g0_f]
      refine orQ (fun _ => ?_) (fun _ => ?_)
      all_goals rw [hQ, hg]
      all_goals exact ⟨_, rfl⟩
  rw [hQ] at hq; exact hq
theorem GL6 {c mul : Nat} {h : Int32} {he row : Nat → Int32} (g : GL c mul h he row) : ∃ n, n ≤ 6 ∧ row c = jI n := by
  obtain ⟨n, h6, _, e, _⟩ := g
  exact ⟨n, h6, e⟩
/-- which lanes -/
def laB (row : Nat → Int32) (k : Nat) : Int32 := if soS row row (row 7) (jI (4 + k)) = 0 then 0 else jshl (1 : Int32) (jI k)
def laS (row : Nat → Int32) : Int32 := orGo (laB row) 27 0 0
theorem jI_4 {k : Nat} : jI (4 + k) - (4 : Int32) = jI k := by
  rw [cj_4, jI_sub (by omega), Nat.add_sub_cancel_left]
theorem x_lanes {N : Nat} (hN : 1000 ≤ N) {m d h th : Int32} {pe au : Nat → Option Nat} {ho si sw he row : Nat → Int32} (hW : WS row) (hX : XS m d pe au ho si row) (hL : GL 35 2 h he row) (es : ∀ i, i < rn row → sw i = row i) (e7 : row 7 = th) : fX0_lanes N m d h he ho pe th sw si au = some (laS row) := by
  obtain ⟨V, hV⟩ : ∃ V, laS row = V := ⟨_, rfl⟩
  have hV2 : orGo (laB row) 27 0 0 = V := hV
  rw [hV]
  obtain ⟨Q, hQ⟩ : ∃ Q : Option (Int32) → Prop, Q = fun X => X = some V := ⟨_, rfl⟩
  have hq : Q (fX0_lanes N m d h he ho pe th sw si au) := by
    unfold fX0_lanes
    refine whl2_Q Q (fun k x a => x = jI (4 + k) ∧ orGo (laB row) (27 - k) k a = V) 27 ?_ N (by omega) _ _ ⟨rfl, hV2⟩
    intro k hk x a hp rec hr
    obtain ⟨rfl, hg⟩ := hp
    by_cases hlt : k < 27
    · have h2 := orGo_s hlt hg
      rw [if_neg (nlt cj_30 (by omega) (by omega)), x_isSo hN hW hX hL, bnd1_some, soS_cong es, ← e7, jI_4]
      simp only [jn1_e, jn0_e, one_eq_zero, zero_eq_one, if_true, if_false]
      unfold laB at h2
      by_cases hz : soS row row (row 7) (jI (4 + k)) = 0
      · rw [if_pos hz] at h2 ⊢
        exact hr hlt _ _ ⟨jI_1 _, h2⟩
      · rw [if_neg hz] at h2 ⊢
        exact hr hlt _ _ ⟨jI_1 _, h2⟩
    · rw [if_pos (plt cj_30 (by omega) (by omega)), hQ, orGo_e hlt hg]
  rw [hQ] at hq; exact hq
theorem m_lanes {N : Nat} (hN : 1000 ≤ N) {row : Nat → Int32} (hW : WS row) (h6 : ∃ n, n ≤ 6 ∧ row 35 = jI n) (lea : Nat → Int32) : ∃ lea', fX5_lanes N row lea = some (laS row, lea') := by
  obtain ⟨V, hV⟩ : ∃ V, laS row = V := ⟨_, rfl⟩
  have hV2 : orGo (laB row) 27 0 0 = V := hV
  rw [hV]
  obtain ⟨Q, hQ⟩ : ∃ Q : Option (Int32 × (Nat → Int32)) → Prop, Q = fun X => ∃ lea', X = some (V, lea') := ⟨_, rfl⟩
  have hq : Q (fX5_lanes N row lea) := by
    unfold fX5_lanes
    refine whl3_Q Q (fun k x a _ => x = jI (4 + k) ∧ orGo (laB row) (27 - k) k a = V) 27 ?_ N (by omega) _ _ _ ⟨rfl, hV2⟩
    intro k hk x a l hp rec hr
    obtain ⟨rfl, hg⟩ := hp
    by_cases hlt : k < 27
    · have h2 := orGo_s hlt hg
      obtain ⟨l', hl⟩ := m_isSo (b := 0) (w := jI (4 + k)) (ρ := row) hN (fun c lea => m_by0 hN hW (jI (4 + k)) c (-1) lea) h6 (fun _ _ _ => rfl) l
      rw [if_neg (nle cj_31 (by omega) (by omega)), hl, bnd2_some, jI_4]
      simp only [jn1_e, jn0_e, one_eq_zero, zero_eq_one, if_true, if_false]
      unfold laB at h2
      by_cases hz : soS row row (row 7) (jI (4 + k)) = 0
      · rw [if_pos hz] at h2 ⊢
        exact hr hlt _ _ _ ⟨jI_1 _, h2⟩
      · rw [if_neg hz] at h2 ⊢
        exact hr hlt _ _ _ ⟨jI_1 _, h2⟩
    · rw [if_pos (ple cj_31 (by omega) (by omega)), hQ, orGo_e hlt hg]
      exact ⟨_, rfl⟩
  rw [hQ] at hq; exact hq
theorem op_lanes {N : Nat} (hN : 1000 ≤ N) {w : Int32} {m : Int32} {d : Int32} {h : Int32} {t : Int32} {q : Int32} {u : Int32} {pe : Nat → Option Nat} {ho : Nat → Int32} {au : Nat → Option Nat} {si : Nat → Int32} {he : Nat → Int32} {no : Nat → Int32} {ma : Nat → Int32} {th : Int32} {ns : Int32} {ct : Int32} {sw : Nat → Int32} {ws : Nat → Nat → Int32} {wt : Nat → Int32} {wn : Nat → Int32} {wc : Nat → Int32} {im : Nat → Option LT} {tx : Nat → Int32} {ty : Int32} {row kept words : Nat → Int32} (H : RR (w, m, d, h, t, q, u, pe, ho, au, si, he, no, ma, th, ns, ct, sw, ws, wt, wn, wc) im tx ty row kept words)  (lea : Nat → Int32) : ∃ (r : Int32) (lea' : Nat → Int32), fX0_lanes N m d h he ho pe th sw si au = some r ∧ fX5_lanes N row lea = some (r, lea') ∧ RR (w, m, d, h, t, q, u, pe, ho, au, si, he, no, ma, th, ns, ct, sw, ws, wt, wn, wc) im tx ty row kept words := by
  have H' := H
  obtain ⟨⟨ga, gw, gh, gt, gq, gs, gu⟩, gi, gx, gW⟩ := H'
  have ga' := ga
  obtain ⟨hW, hX, okp, oka, h01⟩ := ga'
  have hX' := hX
  obtain ⟨em, ed, e3, e4, e5, e6⟩ := hX'
  have hW' := hW
  obtain ⟨h7, hn, h4, hd, hK, hA⟩ := hW'
  have hn1 : rn row < 1000 := by omega
  have hd1 : rd row < 1000 := by omega
  have es : ∀ i, i < rn row → sw i = row i := fun i hi => by have := (gs.2.2.2.2 i hi).1; rwa [Nat.zero_add] at this
  have e7 : row 7 = th := gs.1
  have e9 : row 9 = ct := gs.2.2.1
  have e10 : row 10 = w := gw.1
  have hx : fX0_lanes N m d h he ho pe th sw si au = some (laS row) := x_lanes hN hW hX gh es e7
  obtain ⟨lea', hm⟩ := m_lanes hN hW (GL6 gh) lea
  exact ⟨_, _, hx, hm, H⟩
theorem op_swung {N : Nat} (hN : 1000 ≤ N) {w : Int32} {m : Int32} {d : Int32} {h : Int32} {t : Int32} {q : Int32} {u : Int32} {pe : Nat → Option Nat} {ho : Nat → Int32} {au : Nat → Option Nat} {si : Nat → Int32} {he : Nat → Int32} {no : Nat → Int32} {ma : Nat → Int32} {th : Int32} {ns : Int32} {ct : Int32} {sw : Nat → Int32} {ws : Nat → Nat → Int32} {wt : Nat → Int32} {wn : Nat → Int32} {wc : Nat → Int32} {im : Nat → Option LT} {tx : Nat → Int32} {ty : Int32} {row kept words : Nat → Int32} (H : RR (w, m, d, h, t, q, u, pe, ho, au, si, he, no, ma, th, ns, ct, sw, ws, wt, wn, wc) im tx ty row kept words) (p1 : Int32) (tth : Int32) (tns : Int32) (tct : Int32) (tsw : Nat → Int32) (rf : Nat → Int32) (lea : Nat → Int32) : ∃ (r : Int32) (tth' : Int32) (tns' : Int32) (tct' : Int32) (tsw' : Nat → Int32) (rf' : Nat → Int32) (row' : Nat → Int32) (lea' : Nat → Int32), fX0_swung N p1 w m d h tth tns tct th ns ct tsw sw he ho pe si au rf = some (r, tth', tns', tct', tsw', rf') ∧ fX5_swung N p1 row lea rf = some (r, row', lea', rf') ∧ RR (w, m, d, h, t, q, u, pe, ho, au, si, he, no, ma, th, ns, ct, sw, ws, wt, wn, wc) im tx ty row' kept words := by
  have H' := H
  obtain ⟨⟨ga, gw, gh, gt, gq, gs, gu⟩, gi, gx, gW⟩ := H'
  have ga' := ga
  obtain ⟨hW, hX, okp, oka, h01⟩ := ga'
  have hX' := hX
  obtain ⟨em, ed, e3, e4, e5, e6⟩ := hX'
  have hW' := hW
  obtain ⟨h7, hn, h4, hd, hK, hA⟩ := hW'
  have hn1 : rn row < 1000 := by omega
  have hd1 : rd row < 1000 := by omega
  have es : ∀ i, i < rn row → sw i = row i := fun i hi => by have := (gs.2.2.2.2 i hi).1; rwa [Nat.zero_add] at this
  have e7 : row 7 = th := gs.1
  have e9 : row 9 = ct := gs.2.2.1
  have e10 : row 10 = w := gw.1
  by_cases b1 : inR p1 0 ((rn row : Int) - 1)
  · obtain ⟨i, hi, ep⟩ := inR_lt b1
    subst ep
    have o1 : fX0_isOne N (jI i) m = some 1 := by rw [em]; exact x_isOne_t N hn1 b1
    have o2 : fX5_isOne N (jI i) row = some 1 := m_isOne_t N hn hn1 b1
    obtain ⟨f, hf⟩ : ∃ f : Nat → Int32, ∀ k, f k = soS row (upd row i (jI k)) th w := ⟨_, fun _ => rfl⟩
    obtain ⟨b, hb⟩ : ∃ b : Nat → Int32, ∀ k, b k = if f k = 0 then 0 else jshl (1 : Int32) (jI k) := ⟨_, fun _ => rfl⟩
    obtain ⟨V, hV⟩ : ∃ V, orGo b 10 0 0 = V := ⟨_, rfl⟩
    have hs : ∀ k (a : Nat → Int32), (∀ j, j < rn row → ¬ j = i → a j = row j) → fX0_isSo N w m d h he ho pe th (upd a i (jI k)) si au = some (f k) := fun k a ha => by
      rw [x_isSo hN hW hX gh, hf, soS_upd ha]
    have hx : ∃ t, fX0_swung N p1 w m d h tth tns tct th ns ct tsw sw he ho pe si au rf = some (V, th, ns, ct, t, rf) := by
      obtain ⟨Q, hQ⟩ : ∃ Q : Option (Int32 × Int32 × Int32 × Int32 × (Nat → Int32) × (Nat → Int32)) → Prop, Q = fun X => ∃ t, X = some (V, th, ns, ct, t, rf) := ⟨_, rfl⟩
      have hq : Q (fX0_swung N p1 w m d h tth tns tct th ns ct tsw sw he ho pe si au rf) := by
        unfold fX0_swung
        rw [o1, bnd1_some, if10, x_takes2, bnd4_some]
        refine whl3_Q Q (fun k x v a => x = jI k ∧ (∀ j, j < rn row → ¬ j = i → a j = row j) ∧ orGo b (10 - k) k v = V) 10 ?_ N (by omega) _ _ _ ⟨rfl, (fun j hj _ => by rw [cpy_at (by omega)]; exact es j hj), hV⟩
        intro k hk x v a hp rec hr
        obtain ⟨rfl, ha, hg⟩ := hp
        by_cases hlt : k < 10
        · have h2 := orGo_s hlt hg
          rw [hb] at h2
          rw [if_neg (nlt cj_9 (by omega) (by omega)), grd_lt (by omega) (by omega), jI_nat (by omega), hs k a ha, bnd1_some]
          simp only [jn1_e, jn0_e, one_eq_zero, zero_eq_one, if_true, if_false]
          by_cases hz : f k = 0
          · rw [if_pos hz] at h2 ⊢
            exact hr hlt _ _ _ ⟨jI_1 k, upd_keep ha, h2⟩
          · rw [if_neg hz] at h2 ⊢
            exact hr hlt _ _ _ ⟨jI_1 k, upd_keep ha, h2⟩
        · rw [if_pos (plt cj_9 (by omega) (by omega)), hQ, orGo_e hlt hg]
          exact ⟨_, rfl⟩
      rw [hQ] at hq; exact hq
    have hm : ∃ ρ lea', fX5_swung N p1 row lea rf = some (V, ρ, lea', rf) ∧ ∀ k, k < 537 → ρ k = row k := by
      obtain ⟨Q, hQ⟩ : ∃ Q : Option (Int32 × (Nat → Int32) × (Nat → Int32) × (Nat → Int32)) → Prop, Q = fun X => ∃ ρ lea', X = some (V, ρ, lea', rf) ∧ ∀ k, k < 537 → ρ k = row k := ⟨_, rfl⟩
      have hq : Q (fX5_swung N p1 row lea rf) := by
        unfold fX5_swung
        rw [o2, bnd1_some, if10, m_tried hN, bnd1_some, show (537 : Int32) + jI i = jI (537 + i) from jI_add 537 i]
        refine whl4_Q Q (fun k x v a _ => x = jI k ∧ TX row a i (row 7) ∧ orGo b (10 - k) k v = V) 10 ?_ N (by omega) _ _ _ _ ⟨rfl, TX_of (TR_lay h7), hV⟩
        intro k hk x v a l hp rec hr
        obtain ⟨rfl, ha, hg⟩ := hp
        by_cases hlt : k < 10
        · have h2 := orGo_s hlt hg
          rw [hb] at h2
          have hT := TX_upd (v := jI k) h7 hi ha
          have e10' : upd a (537 + i) (jI k) 10 = w := by rw [hT.1 10 (by omega), e10]
          obtain ⟨l', hl⟩ := m_isSo (b := 537) (w := w) (ρ := upd a (537 + i) (jI k)) hN (fun c lea => m_byT hN hW hT w c (-1) lea) (GL6 gh) (fun k _ h => hT.1 k (by omega)) l
          rw [e7, ← hf] at hl
          rw [if_neg (nle cj_10 hlt (by omega)), grd_lt (by omega) (by omega), jI_nat (by omega), nmd_e, e10', hl, bnd2_some]
          simp only [jn1_e, jn0_e, one_eq_zero, zero_eq_one, if_true, if_false]
          by_cases hz : f k = 0
          · rw [if_pos hz] at h2 ⊢
            exact hr hlt _ _ _ _ ⟨jI_1 k, TX_keep h7 hi ha, h2⟩
          · rw [if_neg hz] at h2 ⊢
            exact hr hlt _ _ _ _ ⟨jI_1 k, TX_keep h7 hi ha, h2⟩
        · rw [if_pos (ple cj_10 (by omega) (by omega)), hQ, orGo_e hlt hg]
          exact ⟨_, _, rfl, ha.1⟩
      rw [hQ] at hq; exact hq
    obtain ⟨t, hx⟩ := hx
    obtain ⟨ρ, lea', hm, he⟩ := hm
    exact ⟨_, _, _, _, _, _, _, _, hx, hm, RR_s he H⟩
  · exact ⟨_, _, _, _, _, _, _, _, (by unfold fX0_swung; simp only [bnd1_some, bnd2_some, bnd3_some, bnd4_some, bnd5_some, bnd6_some, bnd7_some, bnd8_some, bnd9_some, bnd10_some, bnd11_some, bnd12_some, one_eq_zero, if_true, if_false, x_bad, x_no, x_full, x_badAsk, x_refuses0, m_refuse_bad, m_refuse_no, m_refuse_full, m_badAs, g0_t, g0_f, grd_true, nmd_e, jn1_e, em, x_isOne_f N hn1 b1] : fX0_swung N p1 w m d h tth tns tct th ns ct tsw sw he ho pe si au rf = some (-2, tth, tns, tct, tsw, ref 0 rf)), (by unfold fX5_swung; simp only [bnd1_some, bnd2_some, bnd3_some, bnd4_some, bnd5_some, bnd6_some, bnd7_some, bnd8_some, bnd9_some, bnd10_some, bnd11_some, bnd12_some, one_eq_zero, if_true, if_false, x_bad, x_no, x_full, x_badAsk, x_refuses0, m_refuse_bad, m_refuse_no, m_refuse_full, m_badAs, g0_t, g0_f, grd_true, nmd_e, jn1_e, m_isOne_f N hn hn1 b1] : fX5_swung N p1 row lea rf = some (-2, row, lea, ref 0 rf)), H⟩
