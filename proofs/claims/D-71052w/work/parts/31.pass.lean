/-! PLAIN LAW 12: counts go by -/
theorem leanTo_cong {A A' : Nat → Nat} {sd sd' : Nat → Int32} {hi there c x : Int32} : ∀ d, (∀ k, k < d → A k = A' k ∧ sd k = sd' k) → leanTo A sd hi there c x d = leanTo A' sd' hi there c x d := by
  intro d
  induction d with
  | zero => intro _; rfl
  | succ d ih =>
    intro h
    simp only [leanTo]
    rw [ih (fun k hk => h k (by omega)), (h d (by omega)).1, (h d (by omega)).2]
theorem leaningS_row {row row' sw : Nat → Int32} {there c : Int32} {i : Nat} (h4 : rd row ≤ 4) (h7 : rn row ≤ 7) (hi : i < rn row) (e : ∀ k, 11 ≤ k → k < 35 → row' k = row k) : leaningS row' sw there i c = leaningS row sw there i c := by
  unfold leaningS
  have e1 : rd row' = rd row := rd_c (e 26 (by omega) (by omega))
  have e2 : rK row' i = rK row i := by unfold rK; rw [e (12 + i) (by omega) (by omega)]
  rw [e1, e2, e (19 + i) (by omega) (by omega)]
  apply leanTo_cong
  intro k hk
  unfold rA
  exact ⟨by rw [e (27 + k) (by omega) (by omega)], e (31 + k) (by omega) (by omega)⟩
theorem soundS_row {row row' sw : Nat → Int32} {there w c but : Int32} (hW : WS row) (e : ∀ k, 11 ≤ k → k < 35 → row' k = row k) : soundS row' sw there w c but = soundS row sw there w c but := by
  have h7 := hW.1
  have h4 := hW.2.2.1
  unfold soundS
  rw [rn_c (e 11 (by omega) (by omega))]
  apply sumTo_cong
  intro k hk
  obtain ⟨hi, hj⟩ := divmod_lt hk
  show termS _ _ _ _ _ _ _ _ = termS _ _ _ _ _ _ _ _
  generalize k / rn row = i at *
  generalize k % rn row = j at *
  unfold termS
  rw [leaningS_row h4 h7 hi e, leaningS_row h4 h7 hj e, e (19 + i) (by omega) (by omega), e (19 + j) (by omega) (by omega)]
def gR (row : Nat → Int32) (b : Nat) (ns ct : Int32) : Nat → Int32 := upd (upd row (b + 8) ns) (b + 9) ct
theorem gR_self (row : Nat → Int32) (b : Nat) : gR row b (row (b + 8)) (row (b + 9)) = row := by
  funext k
  unfold gR upd
  by_cases h1 : k = b + 9
  · rw [if_pos h1, h1]
  · rw [if_neg h1]
    by_cases h2 : k = b + 8
    · rw [if_pos h2, h2]
    · rw [if_neg h2]
theorem gR_ne {row : Nat → Int32} {b k : Nat} {ns ct : Int32} (h1 : ¬ k = b + 8) (h2 : ¬ k = b + 9) : gR row b ns ct k = row k := by
  unfold gR; rw [upd_ne h2, upd_ne h1]
theorem gR_8 (row : Nat → Int32) (b : Nat) (ns ct : Int32) : gR row b ns ct (b + 8) = ns := by
  unfold gR; rw [upd_ne (by omega), upd_at]
theorem gR_9 (row : Nat → Int32) (b : Nat) (ns ct : Int32) : gR row b ns ct (b + 9) = ct := by
  unfold gR; rw [upd_at]
theorem gR_gR (row : Nat → Int32) (b : Nat) (ns ct n2 c2 : Int32) : upd (upd (gR row b ns ct) (b + 8) n2) (b + 9) c2 = gR row b n2 c2 := by
  funext k
  unfold gR upd
  by_cases h1 : k = b + 9
  · simp only [h1, if_true]
  · by_cases h2 : k = b + 8
    · simp only [h1, h2, if_true, if_false]
    · simp only [h1, h2, if_false]
/-- one count -/
def passS (row sw : Nat → Int32) (there w : Int32) (s : Int32 × Int32) : Int32 × Int32 := (jmin 9999 (s.1 / 2 + soundS row sw there w s.2 (-1)), s.2 + 1)
def passC (row sw : Nat → Int32) (there w : Int32) (s : Int32 × Int32) : Int32 × Int32 := if s.2 < 9999 then passS row sw there w s else s
def itP (f : Int32 × Int32 → Int32 × Int32) : Nat → Int32 × Int32 → Int32 × Int32
  | 0, s => s
  | k + 1, s => itP f k (f s)
theorem itC_stop {row sw : Nat → Int32} {there w : Int32} {s : Int32 × Int32} (h : ¬ s.2 < 9999) : ∀ r, itP (passC row sw there w) r s = s := by
  intro r
  induction r with
  | zero => rfl
  | succ r ih =>
    show itP _ r (passC row sw there w s) = s
    have : passC row sw there w s = s := by unfold passC; rw [if_neg h]
    rw [this, ih]
theorem x_passes {N : Nat} (hN : 1000 ≤ N) {m d w th ns ct : Int32} {pe au : Nat → Option Nat} {ho si sw row : Nat → Int32} (hW : WS row) (hX : XS m d pe au ho si row) : fX1_passes N w m d th ns ct ho pe sw si au = some (passS row sw th w (ns, ct)) := by
  unfold fX1_passes
  rw [x_sound (by omega) hW hX, bnd1_some]
  rfl
theorem jmin_le (x y : Int32) : jmin x y = if y ≤ x then y else x := by
  unfold jmin
  by_cases h1 : y < x
  · have h2 : y ≤ x := by
      rw [Int32.le_iff_toInt_le]; rw [Int32.lt_iff_toInt_lt] at h1; omega
    rw [if_pos h1, if_pos h2]
  · rw [if_neg h1]
    by_cases h2 : y ≤ x
    · rw [if_pos h2]
      apply Int32.toInt_inj.mp
      rw [Int32.le_iff_toInt_le] at h2; rw [Int32.lt_iff_toInt_lt] at h1; omega
    · rw [if_neg h2]
theorem not_lt32 {a b : Int32} (h : ¬ a < b) : b ≤ a := by
  rw [Int32.le_iff_toInt_le]; rw [Int32.lt_iff_toInt_lt] at h; omega
theorem lt_not32 {a b : Int32} (h : a < b) : ¬ b ≤ a := by
  rw [Int32.le_iff_toInt_le]; rw [Int32.lt_iff_toInt_lt] at h; omega
def goF (b : Nat) (row : Nat → Int32) : Int32 × Int32 → Int32 × Int32 := if b = 0 then passC row (fun i => row (b + i)) (row (b + 7)) (row 10) else passS row (fun i => row (b + i)) (row (b + 7)) (row 10)
theorem m_soundAt_g {N : Nat} (hN : 100 ≤ N) {row : Nat → Int32} (hW : WS row) {b : Nat} (hb : b = 0 ∨ b = 537) (ns ct c : Int32) (old : Nat → Int32) : ∃ lea', fX5_soundAt N (jI b) c (gR row b ns ct) old = some (soundS row (fun i => row (b + i)) (row (b + 7)) (row 10) c (-1), lea') := by
  have h7 := hW.1
  have e : ∀ k, 11 ≤ k → k < 35 → gR row b ns ct k = row k := fun k h1 h2 => gR_ne (by omega) (by omega)
  have hW2 : WS (gR row b ns ct) := WS_c e hW
  have hs := m_soundAt hN hW2 hb c old
  rw [soundS_row hW e, gR_ne (by omega : ¬ b + 7 = b + 8) (by omega), gR_ne (by omega : ¬ 10 = b + 8) (by omega)] at hs
  have hc : soundS row (fun i => gR row b ns ct (b + i)) (row (b + 7)) (row 10) c (-1) = soundS row (fun i => row (b + i)) (row (b + 7)) (row 10) c (-1) := by
    apply soundS_cong
    intro i hi
    exact gR_ne (by omega) (by omega)
  rw [hc] at hs
  exact ⟨_, hs⟩
theorem m_goBy {N : Nat} (hN : 1000 ≤ N) {row : Nat → Int32} (hW : WS row) {b : Nat} (hb : b = 0 ∨ b = 537) {n : Nat} (hn : n < 500) : ∀ r k fuel (s : Int32 × Int32) (lea : Nat → Int32), k + r = n → r < fuel → ∃ lea', whl3 (fun (x_68 : Int32) (a_69 : Nat → Int32) (a_70 : Nat → Int32) rec_71 => if (jI n) ≤ x_68 then some (a_69, a_70) else grd (¬ (((jI b) + (9 : Int32)) < 0 ∨ 547 ≤ ((jI b) + (9 : Int32)).toNatClampNeg)) (if (a_69 ((jI b) + (9 : Int32)).toNatClampNeg) < (9999 : Int32) then grd (¬ (((jI b) + (8 : Int32)) < 0 ∨ 547 ≤ ((jI b) + (8 : Int32)).toNatClampNeg)) (grd (¬ (((jI b) + (9 : Int32)) < 0 ∨ 547 ≤ ((jI b) + (9 : Int32)).toNatClampNeg)) (bnd2 (fX5_soundAt N (jI b) (a_69 ((jI b) + (9 : Int32)).toNatClampNeg) a_69 a_70) (fun (r_77 : Int32) (o_78 : Nat → Int32) => nmd (((a_69 ((jI b) + (8 : Int32)).toNatClampNeg) / (2 : Int32)) + r_77) (fun v_80 => jn1 (fun (u_83 : Int32) => grd (¬ (((jI b) + (8 : Int32)) < 0 ∨ 547 ≤ ((jI b) + (8 : Int32)).toNatClampNeg)) (grd (¬ (((jI b) + (9 : Int32)) < 0 ∨ 547 ≤ ((jI b) + (9 : Int32)).toNatClampNeg)) (nmd (((upd a_69 ((jI b) + (8 : Int32)).toNatClampNeg u_83) ((jI b) + (9 : Int32)).toNatClampNeg) + (1 : Int32)) (fun w_86 => grd (¬ (((jI b) + (9 : Int32)) < 0 ∨ 547 ≤ ((jI b) + (9 : Int32)).toNatClampNeg)) (nmd (upd (upd a_69 ((jI b) + (8 : Int32)).toNatClampNeg u_83) ((jI b) + (9 : Int32)).toNatClampNeg w_86) (fun f_88 => rec_71 (x_68 + (1 : Int32)) f_88 o_78)))))) (fun k_82 => if v_80 ≤ (9999 : Int32) then k_82 v_80 else k_82 (9999 : Int32)))))) else if (jI b) ≤ (0 : Int32) then some (a_69, a_70) else grd (¬ (((jI b) + (8 : Int32)) < 0 ∨ 547 ≤ ((jI b) + (8 : Int32)).toNatClampNeg)) (grd (¬ (((jI b) + (9 : Int32)) < 0 ∨ 547 ≤ ((jI b) + (9 : Int32)).toNatClampNeg)) (bnd2 (fX5_soundAt N (jI b) (a_69 ((jI b) + (9 : Int32)).toNatClampNeg) a_69 a_70) (fun (r_92 : Int32) (o_93 : Nat → Int32) => nmd (((a_69 ((jI b) + (8 : Int32)).toNatClampNeg) / (2 : Int32)) + r_92) (fun v_95 => jn1 (fun (u_98 : Int32) => grd (¬ (((jI b) + (8 : Int32)) < 0 ∨ 547 ≤ ((jI b) + (8 : Int32)).toNatClampNeg)) (grd (¬ (((jI b) + (9 : Int32)) < 0 ∨ 547 ≤ ((jI b) + (9 : Int32)).toNatClampNeg)) (nmd (((upd a_69 ((jI b) + (8 : Int32)).toNatClampNeg u_98) ((jI b) + (9 : Int32)).toNatClampNeg) + (1 : Int32)) (fun w_101 => grd (¬ (((jI b) + (9 : Int32)) < 0 ∨ 547 ≤ ((jI b) + (9 : Int32)).toNatClampNeg)) (nmd (upd (upd a_69 ((jI b) + (8 : Int32)).toNatClampNeg u_98) ((jI b) + (9 : Int32)).toNatClampNeg w_101) (fun f_103 => rec_71 (x_68 + (1 : Int32)) f_103 o_93)))))) (fun k_97 => if v_95 ≤ (9999 : Int32) then k_97 v_95 else k_97 (9999 : Int32)))))))) fuel (jI k) (gR row b s.1 s.2) lea = some (gR row b (itP (goF b row) r s).1 (itP (goF b row) r s).2, lea') := by
  have hb7 : b ≤ 537 := by omega
  intro r
  induction r with
  | zero =>
    intro k fuel s lea hk hf
    obtain ⟨fuel, rfl⟩ : ∃ f, fuel = f + 1 := ⟨fuel - 1, by omega⟩
    refine ⟨lea, ?_⟩
    simp only [whl3]
    rw [if_pos (by rw [jI_le (by omega) (by omega)]; omega)]
    rfl
  | succ r ih =>
    intro k fuel s lea hk hf
    obtain ⟨fuel, rfl⟩ : ∃ f, fuel = f + 1 := ⟨fuel - 1, by omega⟩
    obtain ⟨lea1, hs⟩ := m_soundAt_g (N := N) (by omega) hW hb s.1 s.2 s.2 lea
    have e8 : gR row b s.1 s.2 (b + 8) = s.1 := gR_8 _ _ _ _
    have e9 : gR row b s.1 s.2 (b + 9) = s.2 := gR_9 _ _ _ _
    have key : itP (goF b row) (r + 1) s = itP (goF b row) r (goF b row s) := rfl
    have nx : ∀ v, v = s.1 / (2 : Int32) + soundS row (fun i => row (b + i)) (row (b + 7)) (row 10) s.2 (-1) → passS row (fun i => row (b + i)) (row (b + 7)) (row 10) s = (if v ≤ (9999 : Int32) then v else 9999, s.2 + 1) := by
      intro v hv
      unfold passS
      rw [jmin_le, hv]
    simp only [whl3]
    have hle : ¬ jI n ≤ jI k := by rw [jI_le (by omega) (by omega)]; omega
    rw [if_neg hle]
    have hg : (b = 0 ∧ ¬ s.2 < 9999) ∨ goF b row s = passS row (fun i => row (b + i)) (row (b + 7)) (row 10) s := by
      rcases hb with rfl | rfl
      · by_cases hc : s.2 < 9999
        · right; unfold goF passC; rw [if_pos rfl, if_pos hc]
        · left; exact ⟨rfl, hc⟩
      · right; rfl
    rcases hg with ⟨hb0, hc⟩ | hg
    · refine ⟨lea, ?_⟩
      have hst : itP (goF b row) (r + 1) s = s := by
        unfold goF; rw [if_pos hb0]; exact itC_stop hc (r + 1)
      rw [hst]
      have hc' : ¬ s.2 < jI 9999 := hc
      have hb1 : jI b ≤ jI 0 := by rw [jI_le (by omega) (by omega)]; omega
      simp (disch := omega) only [grd_pos, grd_true, jI_le, jI_lt, jI_eq, jI_nat, jI_add, jI_mul, if_pos, if_neg, bnd1_some, bnd2_some, bnd3_some, bnd4_some, bnd5_some, bnd6_some, bnd7_some, nmd_e, true_and, and_true, cj_0, cj_1, cj_2, cj_3, cj_4, cj_5, cj_6, cj_7, cj_8, cj_9, cj_10, cj_11, cj_12, cj_13, cj_14, cj_15, cj_16, cj_19, cj_20, cj_23, cj_24, cj_26, cj_27, cj_28, cj_30, cj_31, cj_32, cj_35, cj_36, cj_37, cj_48, cj_49, cj_50, cj_51, cj_52, cj_57, cj_59, cj_60, cj_61, cj_73, cj_74, cj_75, cj_76, cj_77, cj_90, cj_97, cj_98, cj_99, cj_100, cj_109, cj_120, cj_122, cj_127, cj_150, cj_160, cj_179, cj_537, cj_547, cj_916, cj_9999, cj_1000000, cj_999999, e8, e9, hc', hb1, if_true, if_false]
    · obtain ⟨lea', hi⟩ := ih (k + 1) fuel (goF b row s) lea1 (by omega) (by omega)
      refine ⟨lea', ?_⟩
      rw [key, ← hi, hg, nx _ rfl]
      obtain ⟨v, hvv⟩ : ∃ v, s.1 / jI 2 + soundS row (fun i => row (b + i)) (row (b + 7)) (row 10) s.2 (-jI 1) = v := ⟨_, rfl⟩
      have hv2 : s.1 / (2 : Int32) + soundS row (fun i => row (b + i)) (row (b + 7)) (row 10) s.2 (-1) = v := hvv
      rw [hv2]
      have fin : upd (upd (gR row b s.1 s.2) (b + 8) (if v ≤ (9999 : Int32) then v else 9999)) (b + 9) (s.2 + (1 : Int32)) = gR row b (if v ≤ (9999 : Int32) then v else 9999) (s.2 + 1) := gR_gR _ _ _ _ _ _
      rw [← fin]
      clear hi ih
      generalize whl3 _ fuel = rec
      by_cases hc : s.2 < jI 9999
      · by_cases hv : v ≤ jI 9999
        · simp (disch := omega) only [grd_pos, grd_true, jI_le, jI_lt, jI_eq, jI_nat, jI_add, jI_mul, if_pos, if_neg, bnd1_some, bnd2_some, bnd3_some, bnd4_some, bnd5_some, bnd6_some, bnd7_some, nmd_e, true_and, and_true, cj_0, cj_1, cj_2, cj_3, cj_4, cj_5, cj_6, cj_7, cj_8, cj_9, cj_10, cj_11, cj_12, cj_13, cj_14, cj_15, cj_16, cj_19, cj_20, cj_23, cj_24, cj_26, cj_27, cj_28, cj_30, cj_31, cj_32, cj_35, cj_36, cj_37, cj_48, cj_49, cj_50, cj_51, cj_52, cj_57, cj_59, cj_60, cj_61, cj_73, cj_74, cj_75, cj_76, cj_77, cj_90, cj_97, cj_98, cj_99, cj_100, cj_109, cj_120, cj_122, cj_127, cj_150, cj_160, cj_179, cj_537, cj_547, cj_916, cj_9999, cj_1000000, cj_999999, e8, e9, hs, hvv, hc, hv, if_true, if_false, jn1_e, upd_ne]
        · simp (disch := omega) only [grd_pos, grd_true, jI_le, jI_lt, jI_eq, jI_nat, jI_add, jI_mul, if_pos, if_neg, bnd1_some, bnd2_some, bnd3_some, bnd4_some, bnd5_some, bnd6_some, bnd7_some, nmd_e, true_and, and_true, cj_0, cj_1, cj_2, cj_3, cj_4, cj_5, cj_6, cj_7, cj_8, cj_9, cj_10, cj_11, cj_12, cj_13, cj_14, cj_15, cj_16, cj_19, cj_20, cj_23, cj_24, cj_26, cj_27, cj_28, cj_30, cj_31, cj_32, cj_35, cj_36, cj_37, cj_48, cj_49, cj_50, cj_51, cj_52, cj_57, cj_59, cj_60, cj_61, cj_73, cj_74, cj_75, cj_76, cj_77, cj_90, cj_97, cj_98, cj_99, cj_100, cj_109, cj_120, cj_122, cj_127, cj_150, cj_160, cj_179, cj_537, cj_547, cj_916, cj_9999, cj_1000000, cj_999999, e8, e9, hs, hvv, hc, hv, if_true, if_false, jn1_e, upd_ne]
      · have hb1 : ¬ jI b ≤ jI 0 := by
          rw [jI_le (by omega) (by omega)]
          intro hb2
          have hb0 : b = 0 := by omega
          subst hb0
          have hst : goF 0 row s = s := by
            unfold goF passC; rw [if_pos rfl, if_neg (show ¬ s.2 < 9999 from hc)]
          rw [hst] at hg
          have h2 := congrArg Prod.snd hg
          have h3 : s.2 = s.2 + 1 := h2
          have h4 := congrArg (fun x => x - s.2) h3
          simp only [Int32.sub_self] at h4
          have h5 : s.2 + 1 - s.2 = 1 := by
            rw [Int32.add_comm, Int32.add_sub_cancel]
          rw [h5] at h4
          exact absurd h4 (by decide)
        by_cases hv : v ≤ jI 9999
        · simp (disch := omega) only [grd_pos, grd_true, jI_le, jI_lt, jI_eq, jI_nat, jI_add, jI_mul, if_pos, if_neg, bnd1_some, bnd2_some, bnd3_some, bnd4_some, bnd5_some, bnd6_some, bnd7_some, nmd_e, true_and, and_true, cj_0, cj_1, cj_2, cj_3, cj_4, cj_5, cj_6, cj_7, cj_8, cj_9, cj_10, cj_11, cj_12, cj_13, cj_14, cj_15, cj_16, cj_19, cj_20, cj_23, cj_24, cj_26, cj_27, cj_28, cj_30, cj_31, cj_32, cj_35, cj_36, cj_37, cj_48, cj_49, cj_50, cj_51, cj_52, cj_57, cj_59, cj_60, cj_61, cj_73, cj_74, cj_75, cj_76, cj_77, cj_90, cj_97, cj_98, cj_99, cj_100, cj_109, cj_120, cj_122, cj_127, cj_150, cj_160, cj_179, cj_537, cj_547, cj_916, cj_9999, cj_1000000, cj_999999, e8, e9, hs, hvv, hc, hb1, hv, if_true, if_false, jn1_e, upd_ne]
        · simp (disch := omega) only [grd_pos, grd_true, jI_le, jI_lt, jI_eq, jI_nat, jI_add, jI_mul, if_pos, if_neg, bnd1_some, bnd2_some, bnd3_some, bnd4_some, bnd5_some, bnd6_some, bnd7_some, nmd_e, true_and, and_true, cj_0, cj_1, cj_2, cj_3, cj_4, cj_5, cj_6, cj_7, cj_8, cj_9, cj_10, cj_11, cj_12, cj_13, cj_14, cj_15, cj_16, cj_19, cj_20, cj_23, cj_24, cj_26, cj_27, cj_28, cj_30, cj_31, cj_32, cj_35, cj_36, cj_37, cj_48, cj_49, cj_50, cj_51, cj_52, cj_57, cj_59, cj_60, cj_61, cj_73, cj_74, cj_75, cj_76, cj_77, cj_90, cj_97, cj_98, cj_99, cj_100, cj_109, cj_120, cj_122, cj_127, cj_150, cj_160, cj_179, cj_537, cj_547, cj_916, cj_9999, cj_1000000, cj_999999, e8, e9, hs, hvv, hc, hb1, hv, if_true, if_false, jn1_e, upd_ne]
