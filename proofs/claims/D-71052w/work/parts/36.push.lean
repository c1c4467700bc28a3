/-! PLAIN LAW 17: push, widest, wrong -/
theorem op_push {N : Nat} (hN : 1000 ≤ N) {w : Int32} {m : Int32} {d : Int32} {h : Int32} {t : Int32} {q : Int32} {u : Int32} {pe : Nat → Option Nat} {ho : Nat → Int32} {au : Nat → Option Nat} {si : Nat → Int32} {he : Nat → Int32} {no : Nat → Int32} {ma : Nat → Int32} {th : Int32} {ns : Int32} {ct : Int32} {sw : Nat → Int32} {ws : Nat → Nat → Int32} {wt : Nat → Int32} {wn : Nat → Int32} {wc : Nat → Int32} {im : Nat → Option LT} {tx : Nat → Int32} {ty : Int32} {row kept words : Nat → Int32} (H : RR (w, m, d, h, t, q, u, pe, ho, au, si, he, no, ma, th, ns, ct, sw, ws, wt, wn, wc) im tx ty row kept words) (p1 : Int32) (p2 : Int32) (rf : Nat → Int32) (tth : Int32) (tns : Int32) (tct : Int32) (tsw : Nat → Int32) (lea : Nat → Int32) : ∃ (r : Int32) (rf' : Nat → Int32) (tth' : Int32) (tns' : Int32) (tct' : Int32) (tsw' : Nat → Int32) (row' : Nat → Int32) (lea' : Nat → Int32), fX0_push N p1 p2 w m d rf tth tns tct th ns ct tsw sw ho pe si au = some (r, rf', tth', tns', tct', tsw') ∧ fX5_push N p1 p2 row rf lea = some (r, row', rf', lea') ∧ RR (w, m, d, h, t, q, u, pe, ho, au, si, he, no, ma, th, ns, ct, sw, ws, wt, wn, wc) im tx ty row' kept words := by
  have H' := H
  obtain ⟨⟨ga, gw, gh, gt, gq, gs, gu⟩, gi, gx, gW⟩ := H'
  have ga' := ga
  obtain ⟨hW, hX, okp, oka, h01⟩ := ga'
  have hX' := hX
  obtain ⟨em, ed, e3, e4, e5, e6⟩ := hX'
  have hW' := hW
  obtain ⟨h7, hn, h4, hd, hK, hA⟩ := hW'
  have hn1 : rn row < 1000 := by omega
  have hd1 : rd row < 1000 := by omega
  have es : ∀ i, i < rn row → sw i = row i := fun i hi => by have := (gs.2.2.2.2 i hi).1; rwa [Nat.zero_add] at this
  have e7 : row 7 = th := gs.1
  have e9 : row 9 = ct := gs.2.2.1
  have e10 : row 10 = w := gw.1
  by_cases b1 : inR p1 0 ((rn row : Int) - 1)
  · by_cases b2 : inR p2 0 99
    · obtain ⟨i, hi, ep⟩ := inR_lt b1
      subst ep
      have o1 : fX0_isOne N (jI i) m = some 1 := by rw [em]; exact x_isOne_t N hn1 b1
      have o2 : fX5_isOne N (jI i) row = some 1 := m_isOne_t N hn hn1 b1
      obtain ⟨f, hf⟩ : ∃ f : Nat → Int32, ∀ k, f k = soundS row (upd row i (jI k)) th w p2 (-1) := ⟨_, fun _ => rfl⟩
      obtain ⟨V, hV⟩ : ∃ V, findS f 10 0 = V := ⟨_, rfl⟩
      have hs : ∀ k (a : Nat → Int32), (∀ j, j < rn row → ¬ j = i → a j = row j) → fX1_sound N p2 w m d ho pe th (upd a i (jI k)) si au = some (f k) := fun k a ha => by
        rw [x_sound (by omega) hW hX, hf, soundS_upd ha]
      have hx : ∃ t, fX0_push N p1 p2 w m d rf tth tns tct th ns ct tsw sw ho pe si au = some (V, rf, th, ns, ct, t) := by
        obtain ⟨Q, hQ⟩ : ∃ Q : Option (Int32 × (Nat → Int32) × Int32 × Int32 × Int32 × (Nat → Int32)) → Prop, Q = fun X => ∃ t, X = some (V, rf, th, ns, ct, t) := ⟨_, rfl⟩
        have hq : Q (fX0_push N p1 p2 w m d rf tth tns tct th ns ct tsw sw ho pe si au) := by
          unfold fX0_push
          rw [o1, bnd1_some, if10, x_isCount_t N b2, bnd1_some, if10, x_takes2, bnd4_some]
          refine whl2_Q Q (fun k x a => x = jI k ∧ (∀ j, j < rn row → ¬ j = i → a j = row j) ∧ findS f (10 - k) k = V) 10 ?_ N (by omega) _ _ ⟨rfl, (fun j hj _ => by rw [cpy_at (by omega)]; exact es j hj), hV⟩
          intro k hk x a hp rec hr
          obtain ⟨rfl, ha, hg⟩ := hp
          by_cases hlt : k < 10
          · rw [if_neg (nlt cj_9 (by omega) (by omega)), grd_lt (by omega) (by omega), jI_nat (by omega), hs k a ha, bnd1_some]
            by_cases hp : f k ≤ 0
            · rw [if_pos hp]
              exact hr hlt _ _ ⟨jI_1 k, upd_keep ha, findS_go hlt hp hg⟩
            · rw [if_neg hp, hQ, findS_at hlt hp hg]
              exact ⟨_, rfl⟩
          · rw [if_pos (plt cj_9 (by omega) (by omega)), hQ, findS_end hlt hg]
            exact ⟨_, rfl⟩
        rw [hQ] at hq; exact hq
      have hm : ∃ ρ lea', fX5_push N p1 p2 row rf lea = some (V, ρ, rf, lea') ∧ ∀ k, k < 537 → ρ k = row k := by
        obtain ⟨Q, hQ⟩ : ∃ Q : Option (Int32 × (Nat → Int32) × (Nat → Int32) × (Nat → Int32)) → Prop, Q = fun X => ∃ ρ lea', X = some (V, ρ, rf, lea') ∧ ∀ k, k < 537 → ρ k = row k := ⟨_, rfl⟩
        have hq : Q (fX5_push N p1 p2 row rf lea) := by
          unfold fX5_push
          rw [o2, bnd1_some, if10, in5_0_99_t N b2, bnd1_some, if10, m_tried hN, bnd1_some, show (537 : Int32) + jI i = jI (537 + i) from jI_add 537 i]
          refine whl3_Q Q (fun k x a _ => x = jI k ∧ TX row a i (row 7) ∧ findS f (10 - k) k = V) 10 ?_ N (by omega) _ _ _ ⟨rfl, TX_of (TR_lay h7), hV⟩
          intro k hk x a l hp rec hr
          obtain ⟨rfl, ha, hg⟩ := hp
          by_cases hlt : k < 10
          · obtain ⟨l', hl⟩ := m_atT hN hW (TX_upd (v := jI k) h7 hi ha) p2 l
            rw [e7, e10, ← hf] at hl
            rw [if_neg (nle cj_10 hlt (by omega)), grd_lt (by omega) (by omega), jI_nat (by omega), nmd_e, hl, bnd2_some]
            by_cases hp : f k ≤ 0
            · rw [if_pos hp]
              exact hr hlt _ _ _ ⟨jI_1 k, TX_keep h7 hi ha, findS_go hlt hp hg⟩
            · rw [if_neg hp, hQ, findS_at hlt hp hg]
              exact ⟨_, _, rfl, (TX_keep h7 hi ha).1⟩
          · rw [if_pos (ple cj_10 (by omega) (by omega)), hQ, findS_end hlt hg]
            exact ⟨_, _, rfl, ha.1⟩
        rw [hQ] at hq; exact hq
      obtain ⟨t, hx⟩ := hx
      obtain ⟨ρ, lea', hm, he⟩ := hm
      exact ⟨_, _, _, _, _, _, _, _, hx, hm, RR_s he H⟩
    · exact ⟨_, _, _, _, _, _, _, _, (by unfold fX0_push; simp only [bnd1_some, bnd2_some, bnd3_some, bnd4_some, bnd5_some, bnd6_some, bnd7_some, bnd8_some, bnd9_some, bnd10_some, bnd11_some, bnd12_some, one_eq_zero, if_true, if_false, x_bad, x_no, x_full, x_badAsk, x_refuses0, m_refuse_bad, m_refuse_no, m_refuse_full, m_badAs, g0_t, g0_f, grd_true, nmd_e, jn1_e, em, x_isOne_t N hn1 b1, x_isCount_f N b2] : fX0_push N p1 p2 w m d rf tth tns tct th ns ct tsw sw ho pe si au = some (-2, ref 0 rf, tth, tns, tct, tsw)), (by unfold fX5_push; simp only [bnd1_some, bnd2_some, bnd3_some, bnd4_some, bnd5_some, bnd6_some, bnd7_some, bnd8_some, bnd9_some, bnd10_some, bnd11_some, bnd12_some, one_eq_zero, if_true, if_false, x_bad, x_no, x_full, x_badAsk, x_refuses0, m_refuse_bad, m_refuse_no, m_refuse_full, m_badAs, g0_t, g0_f, grd_true, nmd_e, jn1_e, m_isOne_t N hn hn1 b1, in5_0_99_f N b2] : fX5_push N p1 p2 row rf lea = some (-2, row, ref 0 rf, lea)), H⟩
  · exact ⟨_, _, _, _, _, _, _, _, (by unfold fX0_push; simp only [bnd1_some, bnd2_some, bnd3_some, bnd4_some, bnd5_some, bnd6_some, bnd7_some, bnd8_some, bnd9_some, bnd10_some, bnd11_some, bnd12_some, one_eq_zero, if_true, if_false, x_bad, x_no, x_full, x_badAsk, x_refuses0, m_refuse_bad, m_refuse_no, m_refuse_full, m_badAs, g0_t, g0_f, grd_true, nmd_e, jn1_e, em, x_isOne_f N hn1 b1] : fX0_push N p1 p2 w m d rf tth tns tct th ns ct tsw sw ho pe si au = some (-2, ref 0 rf, tth, tns, tct, tsw)), (by unfold fX5_push; simp only [bnd1_some, bnd2_some, bnd3_some, bnd4_some, bnd5_some, bnd6_some, bnd7_some, bnd8_some, bnd9_some, bnd10_some, bnd11_some, bnd12_some, one_eq_zero, if_true, if_false, x_bad, x_no, x_full, x_badAsk, x_refuses0, m_refuse_bad, m_refuse_no, m_refuse_full, m_badAs, g0_t, g0_f, grd_true, nmd_e, jn1_e, m_isOne_f N hn hn1 b1] : fX5_push N p1 p2 row rf lea = some (-2, row, ref 0 rf, lea)), H⟩
/-- downward from 30 to 4: the first that is not still -/
def findD (g : Nat → Int32) : Nat → Nat → Int32
  | 0, _ => -1
  | r + 1, k => if g k = 0 then jI (30 - k) else findD g r (k + 1)
theorem findD_go {f : Nat → Int32} {n k : Nat} {V : Int32} (hk : k < n) (hp : ¬ f k = 0) (h : findD f (n - k) k = V) : findD f (n - (k + 1)) (k + 1) = V := by
  have e : n - k = (n - (k + 1)) + 1 := by omega
  rw [e] at h
  simp only [findD] at h
  rw [if_neg hp] at h
  exact h
theorem findD_at {f : Nat → Int32} {n k : Nat} {V : Int32} (hk : k < n) (hp : f k = 0) (h : findD f (n - k) k = V) : jI (30 - k) = V := by
  have e : n - k = (n - (k + 1)) + 1 := by omega
  rw [e] at h
  simp only [findD] at h
  rw [if_pos hp] at h
  exact h
theorem findD_end {f : Nat → Int32} {n k : Nat} {V : Int32} (hk : ¬ k < n) (h : findD f (n - k) k = V) : (-1 : Int32) = V := by
  have e : n - k = 0 := by omega
  rw [e] at h
  exact h
theorem allZ_go {f : Nat → Int32} {n k : Nat} {V : Int32} (hk : k < n) (hp : f k = 0) (h : allZ f (n - k) k = V) : allZ f (n - (k + 1)) (k + 1) = V := by
  have e : n - k = (n - (k + 1)) + 1 := by omega
  rw [e] at h
  simp only [allZ] at h
  rw [if_pos hp] at h
  exact h
theorem allZ_at {f : Nat → Int32} {n k : Nat} {V : Int32} (hk : k < n) (hp : ¬ f k = 0) (h : allZ f (n - k) k = V) : (0 : Int32) = V := by
  have e : n - k = (n - (k + 1)) + 1 := by omega
  rw [e] at h
  simp only [allZ] at h
  rw [if_neg hp] at h
  exact h
theorem allZ_end {f : Nat → Int32} {n k : Nat} {V : Int32} (hk : ¬ k < n) (h : allZ f (n - k) k = V) : (1 : Int32) = V := by
  have e : n - k = 0 := by omega
  rw [e] at h
  exact h
theorem jI_dn {k : Nat} (h : k < 30) : jI (30 - k) + (-1 : Int32) = jI (30 - (k + 1)) := by
  rw [show (30 - k : Nat) = (30 - (k + 1)) + 1 by omega, ← jI_1, Int32.add_assoc]
  rw [show (1 : Int32) + (-1) = 0 by decide, Int32.add_zero]
theorem SwOk_now {row sw : Nat → Int32} {d : Nat} {th ns ct : Int32} (g : GS (rn row) d 0 th ns ct sw row) : SwOk row row := by
  intro i hi
  obtain ⟨e, a, ha, e2⟩ := g.2.2.2.2 i hi
  rw [Nat.zero_add] at e
  exact ⟨a, ha, by rw [← e, e2]⟩
theorem op_widest {N : Nat} (hN : 1000 ≤ N) {w : Int32} {m : Int32} {d : Int32} {h : Int32} {t : Int32} {q : Int32} {u : Int32} {pe : Nat → Option Nat} {ho : Nat → Int32} {au : Nat → Option Nat} {si : Nat → Int32} {he : Nat → Int32} {no : Nat → Int32} {ma : Nat → Int32} {th : Int32} {ns : Int32} {ct : Int32} {sw : Nat → Int32} {ws : Nat → Nat → Int32} {wt : Nat → Int32} {wn : Nat → Int32} {wc : Nat → Int32} {im : Nat → Option LT} {tx : Nat → Int32} {ty : Int32} {row kept words : Nat → Int32} (H : RR (w, m, d, h, t, q, u, pe, ho, au, si, he, no, ma, th, ns, ct, sw, ws, wt, wn, wc) im tx ty row kept words)  (lea : Nat → Int32) : ∃ (r : Int32) (lea' : Nat → Int32), fX0_widest N m d th ct ho pe sw si au = some r ∧ fX5_widest N row lea = some (r, lea') ∧ RR (w, m, d, h, t, q, u, pe, ho, au, si, he, no, ma, th, ns, ct, sw, ws, wt, wn, wc) im tx ty row kept words := by
  have H' := H
  obtain ⟨⟨ga, gw, gh, gt, gq, gs, gu⟩, gi, gx, gW⟩ := H'
  have ga' := ga
  obtain ⟨hW, hX, okp, oka, h01⟩ := ga'
  have hX' := hX
  obtain ⟨em, ed, e3, e4, e5, e6⟩ := hX'
  have hW' := hW
  obtain ⟨h7, hn, h4, hd, hK, hA⟩ := hW'
  have hn1 : rn row < 1000 := by omega
  have hd1 : rd row < 1000 := by omega
  have es : ∀ i, i < rn row → sw i = row i := fun i hi => by have := (gs.2.2.2.2 i hi).1; rwa [Nat.zero_add] at this
  have e7 : row 7 = th := gs.1
  have e9 : row 9 = ct := gs.2.2.1
  have e10 : row 10 = w := gw.1
  have hso := SwOk_now gs
  obtain ⟨h, hh⟩ : ∃ h : Nat → Nat → Int32, ∀ k j, h k j = soundS row row th (jI (30 - k)) (ct + jI j) (-1) := ⟨_, fun _ _ => rfl⟩
  obtain ⟨f, hf⟩ : ∃ f : Nat → Int32, ∀ k, f k = allZ (h k) 60 0 := ⟨_, fun _ => rfl⟩
  have hst : ∀ k, allZ (fun j => soundS row sw th (jI (30 - k)) (ct + jI j) (-1)) 60 0 = f k := fun k => by
    rw [hf]; exact allZ_c (fun j => (soundS_cong es).trans (hh k j).symm) _ _
  obtain ⟨V, hV⟩ : ∃ V, findD f 27 0 = V := ⟨_, rfl⟩
  have hx : fX0_widest N m d th ct ho pe sw si au = some V := by
    obtain ⟨Q, hQ⟩ : ∃ Q : Option (Int32) → Prop, Q = fun X => X = some V := ⟨_, rfl⟩
    have hq : Q (fX0_widest N m d th ct ho pe sw si au) := by
      unfold fX0_widest
      refine whl1_Q Q (fun k x => x = jI (30 - k) ∧ findD f (27 - k) k = V) 27 ?_ N (by omega) _ ⟨rfl, hV⟩
      intro k hk x hp rec hr
      obtain ⟨rfl, hg⟩ := hp
      by_cases hlt : k < 27
      · rw [if_neg (nlt2 cj_4 (by omega) (by omega)), cj_60, x_isStill hN hW hX (by omega), bnd1_some, hst]
        by_cases hp : f k = 0
        · rw [if_pos hp, hQ, findD_at hlt hp hg]
        · rw [if_neg hp]
          exact hr hlt _ ⟨jI_dn (by omega), findD_go hlt hp hg⟩
      · rw [if_pos (plt2 cj_4 (by omega) (by omega)), hQ, findD_end hlt hg]
    rw [hQ] at hq; exact hq
  have hm : ∃ lea', fX5_widest N row lea = some (V, lea') := by
    obtain ⟨Q, hQ⟩ : ∃ Q : Option (Int32 × (Nat → Int32)) → Prop, Q = fun X => ∃ lea', X = some (V, lea') := ⟨_, rfl⟩
    have hq : Q (fX5_widest N row lea) := by
      unfold fX5_widest
      refine whl2_Q Q (fun k x _ => x = jI (30 - k) ∧ findD f (27 - k) k = V) 27 ?_ N (by omega) _ _ ⟨rfl, hV⟩
      intro k hk x l hp rec hr
      obtain ⟨rfl, hg⟩ := hp
      by_cases hlt : k < 27
      · rw [if_neg (nle2 cj_3 (by omega) (by omega)), e9]
        refine whl2_Q Q (fun j y _ => y = jI j ∧ allZ (h k) (60 - j) j = f k) 60 ?_ N (by omega) _ _ ⟨rfl, (hf k).symm⟩
        intro j hj y l hp rec2 hr2
        obtain ⟨rfl, hg2⟩ := hp
        by_cases hlt2 : j < 60
        · obtain ⟨l', hl⟩ := m_by0 hN hW (jI (30 - k)) (ct + jI j) (-1) l
          have h0 := soundS_0 (there := th) (c := ct + jI j) (but := -1) hW hso (by omega : 30 - k ≤ 30)
          rw [e7] at hl
          rw [← hh] at hl h0
          rw [if_neg (nle cj_60 hlt2 (by omega)), hl, bnd2_some]
          by_cases hp : h k j ≤ 0
          · rw [if_pos hp]
            rw [h0] at hp
            exact hr2 hlt2 _ _ ⟨jI_1 j, allZ_go hlt2 hp hg2⟩
          · rw [if_neg hp, hQ]
            rw [h0] at hp
            have hz := allZ_at hlt2 hp hg2
            rw [findD_at hlt hz.symm hg]
            exact ⟨_, rfl⟩
        · rw [if_pos (ple cj_60 (by omega) (by omega))]
          have hz := allZ_end hlt2 hg2
          exact hr hlt _ _ ⟨jI_dn (by omega), findD_go hlt (by rw [← hz]; decide) hg⟩
      · rw [if_pos (ple2 cj_3 (by omega) (by omega)), hQ, findD_end hlt hg]
        exact ⟨_, rfl⟩
    rw [hQ] at hq; exact hq
  obtain ⟨lea', hm⟩ := hm
  exact ⟨_, _, hx, hm, H⟩
def orGo (b : Nat → Int32) : Nat → Nat → Int32 → Int32
  | 0, _, a => a
  | r + 1, k, a => orGo b r (k + 1) (a ||| b k)
theorem orGo_s {b : Nat → Int32} {n k : Nat} {a V : Int32} (hk : k < n) (h : orGo b (n - k) k a = V) : orGo b (n - (k + 1)) (k + 1) (a ||| b k) = V := by
  have e : n - k = (n - (k + 1)) + 1 := by omega
  rw [e] at h
  exact h
theorem orGo_e {b : Nat → Int32} {n k : Nat} {a V : Int32} (hk : ¬ k < n) (h : orGo b (n - k) k a = V) : a = V := by
  have e : n - k = 0 := by omega
  rw [e] at h
  exact h
theorem orQ {ρ : Type} {Q : Option ρ → Prop} {p : Prop} {i : Decidable p} {A B : Option ρ} (ha : p → Q A) (hb : ¬ p → Q B) : Q (@ite _ p i A B) := by
  by_cases h : p
  · rw [if_pos h]; exact ha h
  · rw [if_neg h]; exact hb h
theorem op_wrong {N : Nat} (hN : 1000 ≤ N) {w : Int32} {m : Int32} {d : Int32} {h : Int32} {t : Int32} {q : Int32} {u : Int32} {pe : Nat → Option Nat} {ho : Nat → Int32} {au : Nat → Option Nat} {si : Nat → Int32} {he : Nat → Int32} {no : Nat → Int32} {ma : Nat → Int32} {th : Int32} {ns : Int32} {ct : Int32} {sw : Nat → Int32} {ws : Nat → Nat → Int32} {wt : Nat → Int32} {wn : Nat → Int32} {wc : Nat → Int32} {im : Nat → Option LT} {tx : Nat → Int32} {ty : Int32} {row kept words : Nat → Int32} (H : RR (w, m, d, h, t, q, u, pe, ho, au, si, he, no, ma, th, ns, ct, sw, ws, wt, wn, wc) im tx ty row kept words) (p1 : Int32) (rf : Nat → Int32) (lea : Nat → Int32) : ∃ (r : Int32) (rf' : Nat → Int32) (lea' : Nat → Int32), fX0_wrong N p1 w m d ho pe th sw si au rf = some (r, rf') ∧ fX5_wrong N p1 row lea rf = some (r, lea', rf') ∧ RR (w, m, d, h, t, q, u, pe, ho, au, si, he, no, ma, th, ns, ct, sw, ws, wt, wn, wc) im tx ty row kept words := by
  have H' := H
  obtain ⟨⟨ga, gw, gh, gt, gq, gs, gu⟩, gi, gx, gW⟩ := H'
  have ga' := ga
  obtain ⟨hW, hX, okp, oka, h01⟩ := ga'
  have hX' := hX
  obtain ⟨em, ed, e3, e4, e5, e6⟩ := hX'
  have hW' := hW
  obtain ⟨h7, hn, h4, hd, hK, hA⟩ := hW'
  have hn1 : rn row < 1000 := by omega
  have hd1 : rd row < 1000 := by omega
  have es : ∀ i, i < rn row → sw i = row i := fun i hi => by have := (gs.2.2.2.2 i hi).1; rwa [Nat.zero_add] at this
  have e7 : row 7 = th := gs.1
  have e9 : row 9 = ct := gs.2.2.1
  have e10 : row 10 = w := gw.1
  by_cases hb : inR p1 0 99
  · obtain ⟨f, hf⟩ : ∃ f : Nat → Int32, ∀ k, f k = soundS row row th w p1 (jI k) := ⟨_, fun _ => rfl⟩
    obtain ⟨b, hbb⟩ : ∃ b : Nat → Int32, ∀ k, b k = if f k = 0 then jshl (1 : Int32) (jI k) else 0 := ⟨_, fun _ => rfl⟩
    obtain ⟨s, hs⟩ : ∃ s : Int32, soundS row row th w p1 (-1) = s := ⟨_, rfl⟩
    obtain ⟨V, hV⟩ : ∃ V, (if s ≤ 0 then 0 else orGo b (rn row) 0 0) = V := ⟨_, rfl⟩
    have hx : fX0_wrong N p1 w m d ho pe th sw si au rf = some (V, rf) := by
      obtain ⟨Q, hQ⟩ : ∃ Q : Option (Int32 × (Nat → Int32)) → Prop, Q = fun X => X = some (V, rf) := ⟨_, rfl⟩
      have hq : Q (fX0_wrong N p1 w m d ho pe th sw si au rf) := by
        unfold fX0_wrong
        rw [x_isCount_t N hb, bnd1_some, if10, x_sound (by omega) hW hX, bnd1_some, soundS_cong es, hs]
        simp only [jn1_e, jn0_e, one_eq_zero, zero_eq_one, if_true, if_false]
        by_cases h0 : s ≤ 0
        · rw [if_pos h0]
          rw [if_pos h0] at hV
          refine whl2_Q Q (fun k x a => x = 0 ∧ a = 0) 0 ?_ N (by omega) _ _ ⟨rfl, rfl⟩
          intro k hk x a hp rec hr
          obtain ⟨rfl, rfl⟩ := hp
          refine orQ (fun _ => ?_) (fun _ => ?_)
          all_goals rw [hQ, hV]
        · rw [if_neg h0]
          rw [if_neg h0] at hV
          refine whl2_Q Q (fun k x a => x = jI k ∧ orGo b (rn row - k) k a = V) (rn row) ?_ N (by omega) _ _ ⟨rfl, hV⟩
          intro k hk x a hp rec hr
          obtain ⟨rfl, hg⟩ := hp
          by_cases hlt : k < rn row
          · have h2 := orGo_s hlt hg
            rw [if_neg (nle em hlt (by omega)), x_soundBut (by omega) hW hX, bnd1_some, soundS_cong es, ← hf]
            rw [hbb] at h2
            by_cases hz : f k = 0
            · rw [if_pos hz] at h2
              rw [if_pos hz]
              exact hr hlt _ _ ⟨jI_1 k, h2⟩
            · rw [if_neg hz] at h2
              rw [if_neg hz]
              exact hr hlt _ _ ⟨jI_1 k, h2⟩
          · rw [if_pos (ple em (by omega) (by omega)), hQ, orGo_e hlt hg]
      rw [hQ] at hq; exact hq
    have hm : ∃ lea', fX5_wrong N p1 row lea rf = some (V, lea', rf) := by
      obtain ⟨Q, hQ⟩ : ∃ Q : Option (Int32 × (Nat → Int32) × (Nat → Int32)) → Prop, Q = fun X => ∃ lea', X = some (V, lea', rf) := ⟨_, rfl⟩
      have hq : Q (fX5_wrong N p1 row lea rf) := by
        obtain ⟨l1, hl1⟩ := m_snd hN hW p1 lea
        rw [e7, e10, hs] at hl1
        unfold fX5_wrong
        rw [in5_0_99_t N hb, bnd1_some, if10, hl1, bnd2_some]
        simp only [jn1_e, jn0_e, one_eq_zero, zero_eq_one, if_true, if_false]
        by_cases h0 : s ≤ 0
        · rw [if_pos h0]
          rw [if_pos h0] at hV
          refine whl3_Q Q (fun k x a _ => x = 0 ∧ a = 0) 0 ?_ N (by omega) _ _ _ ⟨rfl, rfl⟩
          intro k hk x a l hp rec hr
          obtain ⟨rfl, rfl⟩ := hp
          refine orQ (fun _ => ?_) (fun _ => ?_)
          all_goals rw [hQ, hV]
          all_goals exact ⟨_, rfl⟩
        · rw [if_neg h0]
          rw [if_neg h0] at hV
          refine whl3_Q Q (fun k x a _ => x = jI k ∧ orGo b (rn row - k) k a = V) (rn row) ?_ N (by omega) _ _ _ ⟨rfl, hV⟩
          intro k hk x a l hp rec hr
          obtain ⟨rfl, hg⟩ := hp
          by_cases hlt : k < rn row
          · have h2 := orGo_s hlt hg
            obtain ⟨l', hl⟩ := m_by0 hN hW w p1 (jI k) l
            rw [e7, ← hf] at hl
            rw [if_neg (nle hn hlt (by omega)), e10, hl, bnd2_some]
            rw [hbb] at h2
            by_cases hz : f k = 0
            · rw [if_pos hz] at h2
              rw [if_pos hz]
              exact hr hlt _ _ _ ⟨jI_1 k, h2⟩
            · rw [if_neg hz] at h2
              rw [if_neg hz]
              exact hr hlt _ _ _ ⟨jI_1 k, h2⟩
          · rw [if_pos (ple hn (by omega) (by omega)), hQ, orGo_e hlt hg]
            exact ⟨_, rfl⟩
      rw [hQ] at hq; exact hq
    obtain ⟨lea', hm⟩ := hm
    exact ⟨_, _, _, hx, hm, H⟩
  · exact ⟨_, _, _, (by unfold fX0_wrong; simp only [bnd1_some, bnd2_some, bnd3_some, bnd4_some, bnd5_some, bnd6_some, bnd7_some, bnd8_some, bnd9_some, bnd10_some, bnd11_some, bnd12_some, one_eq_zero, if_true, if_false, x_bad, x_no, x_full, x_badAsk, x_refuses0, m_refuse_bad, m_refuse_no, m_refuse_full, m_badAs, g0_t, g0_f, grd_true, nmd_e, jn1_e, x_isCount_f N hb] : fX0_wrong N p1 w m d ho pe th sw si au rf = some (-2, ref 0 rf)), (by unfold fX5_wrong; simp only [bnd1_some, bnd2_some, bnd3_some, bnd4_some, bnd5_some, bnd6_some, bnd7_some, bnd8_some, bnd9_some, bnd10_some, bnd11_some, bnd12_some, one_eq_zero, if_true, if_false, x_bad, x_no, x_full, x_badAsk, x_refuses0, m_refuse_bad, m_refuse_no, m_refuse_full, m_badAs, g0_t, g0_f, grd_true, nmd_e, jn1_e, in5_0_99_f N hb] : fX5_wrong N p1 row lea rf = some (-2, lea, ref 0 rf)), H⟩
