/-! PLAIN LAW 4: the relation between both sides; refusals; the small judges -/
abbrev LT := Int32 × Int32 × Int32 × Int32 × Int32 × Int32 × Int32 × (Nat → Option Nat) × (Nat → Int32) × (Nat → Option Nat) × (Nat → Int32) × (Nat → Int32) × (Nat → Int32) × (Nat → Int32) × Int32 × Int32 × Int32 × (Nat → Int32) × (Nat → Nat → Int32) × (Nat → Int32) × (Nat → Int32) × (Nat → Int32)
def GA (m d : Int32) (pe au : Nat → Option Nat) (ho si ρ : Nat → Int32) : Prop := WS ρ ∧ XS m d pe au ho si ρ ∧ okk pe 7 = true ∧ okk au 4 = true ∧ (∀ i, i < rn ρ → ρ (19 + i) = 0 ∨ ρ (19 + i) = 1)
def GW (w : Int32) (ρ : Nat → Int32) : Prop := ρ 10 = w ∧ ∃ w', 4 ≤ w' ∧ w' ≤ 30 ∧ w = jI w'
def GL (c mul : Nat) (h : Int32) (he ρ : Nat → Int32) : Prop := ∃ h', h' ≤ 6 ∧ h = jI h' ∧ ρ c = jI h' ∧ ∀ k, k < mul * h' → he k = ρ (c + 1 + k)
def GS (n d b : Nat) (th ns ct : Int32) (sw ρ : Nat → Int32) : Prop := ρ (b + 7) = th ∧ ρ (b + 8) = ns ∧ ρ (b + 9) = ct ∧ (∃ s, s < 2 ^ d ∧ th = jI s) ∧ (∀ i, i < n → sw i = ρ (b + i) ∧ ∃ a, a < 10 ∧ sw i = jI a)
def GU (n d : Nat) (u : Int32) (ws : Nat → Nat → Int32) (wt wn wc ρ : Nat → Int32) : Prop := ∃ u', u' ≤ 8 ∧ u = jI u' ∧ ρ 98 = jI u' ∧ ∀ k, k < u' → GS n d (99 + 10 * k) (wt k) (wn k) (wc k) (ws k) ρ
def LR (L : LT) (ρ : Nat → Int32) : Prop := match L with
  | (w, m, d, h, t, q, u, pe, ho, au, si, he, no, ma, th, ns, ct, sw, ws, wt, wn, wc) => GA m d pe au ho si ρ ∧ GW w ρ ∧ GL 35 2 h he ρ ∧ GL 48 4 t no ρ ∧ GL 73 4 q ma ρ ∧ GS (rn ρ) (rd ρ) 0 th ns ct sw ρ ∧ GU (rn ρ) (rd ρ) u ws wt wn wc ρ
def RI (im : Nat → Option LT) (row kept : Nat → Int32) : Prop := ∀ j, j < 2 → (im j = none → kept j = 0) ∧ (∀ L, im j = some L → kept j = 1 ∧ LR L (fun k => row (179 + 179 * j + k)))
def RT (tx : Nat → Int32) (ty : Int32) : Prop := ∃ y, y ≤ 150 ∧ ty = jI y ∧ ∀ k, k < y → ∃ c, c < 128 ∧ tx k = jI c
def wordsC (k : Nat) : Nat := [108, 97, 110, 101, 0, 0, 111, 110, 101, 0, 0, 0, 97, 117, 110, 116, 0, 0, 97, 119, 97, 121, 0, 0, 99, 111, 117, 110, 116, 115].getD k 0
def RW (words : Nat → Int32) : Prop := ∀ k, k < 30 → words k = jI (wordsC k)
def RR (L : LT) (im : Nat → Option LT) (tx : Nat → Int32) (ty : Int32) (row kept words : Nat → Int32) : Prop := LR L row ∧ RI im row kept ∧ RT tx ty ∧ RW words
theorem rn_c {ρ ρ' : Nat → Int32} (e : ρ' 11 = ρ 11) : rn ρ' = rn ρ := by unfold rn; rw [e]
theorem rd_c {ρ ρ' : Nat → Int32} (e : ρ' 26 = ρ 26) : rd ρ' = rd ρ := by unfold rd; rw [e]
theorem WS_c {ρ ρ' : Nat → Int32} (e : ∀ k, 11 ≤ k → k < 35 → ρ' k = ρ k) (h : WS ρ) : WS ρ' := by
  obtain ⟨h7, hn, h4, hd, hK, hA⟩ := h
  have en := rn_c (e 11 (by omega) (by omega))
  have ed := rd_c (e 26 (by omega) (by omega))
  unfold WS
  rw [en, ed, e 11 (by omega) (by omega), e 26 (by omega) (by omega)]
  refine ⟨h7, hn, h4, hd, ?_, ?_⟩
  · intro i hi
    unfold rK; rw [e (12 + i) (by omega) (by omega)]; exact hK i hi
  · intro k hk
    unfold rA; rw [e (27 + k) (by omega) (by omega)]; exact hA k hk
theorem XS_c {ρ ρ' : Nat → Int32} {m d : Int32} {pe au : Nat → Option Nat} {ho si : Nat → Int32} (e : ∀ k, 11 ≤ k → k < 35 → ρ' k = ρ k) (hW : WS ρ) (h : XS m d pe au ho si ρ) : XS m d pe au ho si ρ' := by
  have h7 := hW.1
  have h4 := hW.2.2.1
  obtain ⟨e1, e2, e3, e4, e5, e6⟩ := h
  have en := rn_c (e 11 (by omega) (by omega))
  have ed := rd_c (e 26 (by omega) (by omega))
  unfold XS
  rw [en, ed]
  refine ⟨e1, e2, ?_, ?_, ?_, ?_⟩
  · intro i hi; unfold rK; rw [e (12 + i) (by omega) (by omega)]; exact e3 i hi
  · intro i hi; rw [e (19 + i) (by omega) (by omega)]; exact e4 i hi
  · intro i hi; unfold rA; rw [e (27 + i) (by omega) (by omega)]; exact e5 i hi
  · intro i hi; rw [e (31 + i) (by omega) (by omega)]; exact e6 i hi
theorem GA_c {ρ ρ' : Nat → Int32} {m d : Int32} {pe au : Nat → Option Nat} {ho si : Nat → Int32} (e : ∀ k, 11 ≤ k → k < 35 → ρ' k = ρ k) (h : GA m d pe au ho si ρ) : GA m d pe au ho si ρ' := by
  obtain ⟨a, b, c, d, f⟩ := h
  refine ⟨WS_c e a, XS_c e a b, c, d, ?_⟩
  have h7 := a.1
  rw [rn_c (e 11 (by omega) (by omega))]
  intro i hi; rw [e (19 + i) (by omega) (by omega)]; exact f i hi
theorem GW_c {ρ ρ' : Nat → Int32} {w : Int32} (e : ρ' 10 = ρ 10) (h : GW w ρ) : GW w ρ' := by
  unfold GW; rw [e]; exact h
theorem GL_c {ρ ρ' : Nat → Int32} {c mul : Nat} {h : Int32} {he : Nat → Int32} (e : ∀ k, c ≤ k → k < c + 1 + mul * 6 → ρ' k = ρ k) (g : GL c mul h he ρ) : GL c mul h he ρ' := by
  obtain ⟨h', h6, e1, e2, e3⟩ := g
  have hm : mul * h' ≤ mul * 6 := Nat.mul_le_mul_left mul h6
  refine ⟨h', h6, e1, ?_, ?_⟩
  · rw [e c (by omega) (by omega)]; exact e2
  · intro k hk; rw [e (c + 1 + k) (by omega) (by omega)]; exact e3 k hk
theorem GS_c {ρ ρ' : Nat → Int32} {n d b : Nat} {th ns ct : Int32} {sw : Nat → Int32} (hn : n ≤ 7) (e : ∀ k, b ≤ k → k < b + 10 → ρ' k = ρ k) (g : GS n d b th ns ct sw ρ) : GS n d b th ns ct sw ρ' := by
  obtain ⟨e7, e8, e9, hs, hw⟩ := g
  refine ⟨?_, ?_, ?_, hs, ?_⟩
  · rw [e _ (by omega) (by omega)]; exact e7
  · rw [e _ (by omega) (by omega)]; exact e8
  · rw [e _ (by omega) (by omega)]; exact e9
  · intro i hi; rw [e _ (by omega) (by omega)]; exact hw i hi
theorem GU_c {ρ ρ' : Nat → Int32} {n d : Nat} {u : Int32} {ws : Nat → Nat → Int32} {wt wn wc : Nat → Int32} (hn : n ≤ 7) (e : ∀ k, 98 ≤ k → k < 179 → ρ' k = ρ k) (g : GU n d u ws wt wn wc ρ) : GU n d u ws wt wn wc ρ' := by
  obtain ⟨u', h8, e1, e2, e3⟩ := g
  refine ⟨u', h8, e1, ?_, ?_⟩
  · rw [e 98 (by omega) (by omega)]; exact e2
  · intro k hk; exact GS_c hn (fun j h1 h2 => e j (by omega) (by omega)) (e3 k hk)
theorem GU_0 {ρ : Nat → Int32} {n d : Nat} {ws : Nat → Nat → Int32} {wt wn wc : Nat → Int32} (e : ρ 98 = 0) : GU n d 0 ws wt wn wc ρ := ⟨0, by omega, rfl, e, fun k hk => absurd hk (by omega)⟩
theorem LR_c {L : LT} {ρ ρ' : Nat → Int32} (e : ∀ k, k < 179 → ρ' k = ρ k) (g : LR L ρ) : LR L ρ' := by
  obtain ⟨w, m, d, h, t, q, u, pe, ho, au, si, he, no, ma, th, ns, ct, sw, ws, wt, wn, wc⟩ := L
  obtain ⟨ga, gw, gh, gt, gq, gs, gu⟩ := g
  have h7 := ga.1.1
  have en : rn ρ' = rn ρ := rn_c (e 11 (by omega))
  have ed : rd ρ' = rd ρ := rd_c (e 26 (by omega))
  refine ⟨GA_c (fun k h1 h2 => e k (by omega)) ga, GW_c (e 10 (by omega)) gw, GL_c (fun k h1 h2 => e k (by omega)) gh, GL_c (fun k h1 h2 => e k (by omega)) gt, GL_c (fun k h1 h2 => e k (by omega)) gq, ?_, ?_⟩
  · rw [en, ed]; exact GS_c h7 (fun k h1 h2 => e k (by omega)) gs
  · rw [en, ed]; exact GU_c h7 (fun k h1 h2 => e k (by omega)) gu
theorem RI_c {im : Nat → Option LT} {row row' kept : Nat → Int32} (e : ∀ k, 179 ≤ k → k < 537 → row' k = row k) (g : RI im row kept) : RI im row' kept := by
  intro j hj
  refine ⟨(g j hj).1, fun L hL => ⟨((g j hj).2 L hL).1, LR_c (fun k hk => e _ (by omega) (by omega)) ((g j hj).2 L hL).2⟩⟩
/-- scratch of the row changed: nothing is lost -/
theorem RR_s {L : LT} {im : Nat → Option LT} {tx : Nat → Int32} {ty : Int32} {row row' kept words : Nat → Int32} (e : ∀ k, k < 537 → row' k = row k) (g : RR L im tx ty row kept words) : RR L im tx ty row' kept words := by
  obtain ⟨a, b, c, d⟩ := g
  exact ⟨LR_c (fun k hk => e k (by omega)) a, RI_c (fun k _ hk => e k hk) b, c, d⟩
theorem ori {a b : Int32} (h : a = 0 ∨ a = 1) : a = 0 ∨ a = 1 := h
theorem g0_t {α : Type} {x : Option α} : grd ((1 : Int32) = 0 ∨ (1 : Int32) = 1) x = x := grd_pos (Or.inr rfl)
theorem g0_f {α : Type} {x : Option α} : grd ((0 : Int32) = 0 ∨ (0 : Int32) = 1) x = x := grd_pos (Or.inl rfl)
theorem x_isWide_t (N : Nat) {p : Int32} (h : inR p 4 30) : fX0_isWide N p = some 1 := by
  unfold fX0_isWide
  rw [in0_t N (a := 4) (b := 30) (by decide) (by decide) h, bnd1_some]; exact g0_t
theorem x_isWide_f (N : Nat) {p : Int32} (h : ¬ inR p 4 30) : fX0_isWide N p = some 0 := by
  unfold fX0_isWide
  rw [in0_f N (a := 4) (b := 30) (by decide) (by decide) h, bnd1_some]; exact g0_f
theorem x_isKind_t (N : Nat) {p : Int32} (h : inR p 0 5) : fX0_isKind N p = some 1 := by
  unfold fX0_isKind
  rw [in0_t N (a := 0) (b := 5) (by decide) (by decide) h, bnd1_some]; exact g0_t
theorem x_isKind_f (N : Nat) {p : Int32} (h : ¬ inR p 0 5) : fX0_isKind N p = some 0 := by
  unfold fX0_isKind
  rw [in0_f N (a := 0) (b := 5) (by decide) (by decide) h, bnd1_some]; exact g0_f
theorem x_isHouse_t (N : Nat) {p : Int32} (h : inR p 0 1) : fX0_isHouse N p = some 1 := by
  unfold fX0_isHouse
  rw [in0_t N (a := 0) (b := 1) (by decide) (by decide) h, bnd1_some]; exact g0_t
theorem x_isHouse_f (N : Nat) {p : Int32} (h : ¬ inR p 0 1) : fX0_isHouse N p = some 0 := by
  unfold fX0_isHouse
  rw [in0_f N (a := 0) (b := 1) (by decide) (by decide) h, bnd1_some]; exact g0_f
theorem x_isSwing_t (N : Nat) {p : Int32} (h : inR p 0 9) : fX0_isSwing N p = some 1 := by
  unfold fX0_isSwing
  rw [in0_t N (a := 0) (b := 9) (by decide) (by decide) h, bnd1_some]; exact g0_t
theorem x_isSwing_f (N : Nat) {p : Int32} (h : ¬ inR p 0 9) : fX0_isSwing N p = some 0 := by
  unfold fX0_isSwing
  rw [in0_f N (a := 0) (b := 9) (by decide) (by decide) h, bnd1_some]; exact g0_f
theorem x_isCount_t (N : Nat) {p : Int32} (h : inR p 0 99) : fX0_isCount N p = some 1 := by
  unfold fX0_isCount
  rw [in0_t N (a := 0) (b := 99) (by decide) (by decide) h, bnd1_some]; exact g0_t
theorem x_isCount_f (N : Nat) {p : Int32} (h : ¬ inR p 0 99) : fX0_isCount N p = some 0 := by
  unfold fX0_isCount
  rw [in0_f N (a := 0) (b := 99) (by decide) (by decide) h, bnd1_some]; exact g0_f
theorem x_isLean_t (N : Nat) {p : Int32} (h : inR p (-20) 20) : fX0_isLean N p = some 1 := by
  unfold fX0_isLean
  rw [in0_t N (a := -20) (b := 20) (by decide) (by decide) h, bnd1_some]; exact g0_t
theorem x_isLean_f (N : Nat) {p : Int32} (h : ¬ inR p (-20) 20) : fX0_isLean N p = some 0 := by
  unfold fX0_isLean
  rw [in0_f N (a := -20) (b := 20) (by decide) (by decide) h, bnd1_some]; exact g0_f
theorem x_isOne_t (N : Nat) {p : Int32} {n : Nat} (hn : n < 1000) (h : inR p 0 ((n : Int) - 1)) : fX0_isOne N p (jI n) = some 1 := by
  unfold fX0_isOne
  rw [in0_t N (a := 0) (b := (n : Int) - 1) (by decide) (jI_m1L hn) h, bnd1_some]; exact g0_t
theorem m_isOne_t (N : Nat) {p : Int32} {n : Nat} {row : Nat → Int32} (e : row 11 = jI n) (hn : n < 1000) (h : inR p 0 ((n : Int) - 1)) : fX5_isOne N p row = some 1 := by
  unfold fX5_isOne
  rw [e, in5_t N (a := 0) (b := (n : Int) - 1) (by decide) (jI_m1 hn) h, bnd1_some]; exact g0_t
theorem x_isOne_f (N : Nat) {p : Int32} {n : Nat} (hn : n < 1000) (h : ¬ inR p 0 ((n : Int) - 1)) : fX0_isOne N p (jI n) = some 0 := by
  unfold fX0_isOne
  rw [in0_f N (a := 0) (b := (n : Int) - 1) (by decide) (jI_m1L hn) h, bnd1_some]; exact g0_f
theorem m_isOne_f (N : Nat) {p : Int32} {n : Nat} {row : Nat → Int32} (e : row 11 = jI n) (hn : n < 1000) (h : ¬ inR p 0 ((n : Int) - 1)) : fX5_isOne N p row = some 0 := by
  unfold fX5_isOne
  rw [e, in5_f N (a := 0) (b := (n : Int) - 1) (by decide) (jI_m1 hn) h, bnd1_some]; exact g0_f
theorem x_isAunt_t (N : Nat) {p : Int32} {n : Nat} (hn : n < 1000) (h : inR p 0 ((n : Int) - 1)) : fX0_isAunt N p (jI n) = some 1 := by
  unfold fX0_isAunt
  rw [in0_t N (a := 0) (b := (n : Int) - 1) (by decide) (jI_m1L hn) h, bnd1_some]; exact g0_t
theorem m_isAunt_t (N : Nat) {p : Int32} {n : Nat} {row : Nat → Int32} (e : row 26 = jI n) (hn : n < 1000) (h : inR p 0 ((n : Int) - 1)) : fX5_isAunt N p row = some 1 := by
  unfold fX5_isAunt
  rw [e, in5_t N (a := 0) (b := (n : Int) - 1) (by decide) (jI_m1 hn) h, bnd1_some]; exact g0_t
theorem x_isAunt_f (N : Nat) {p : Int32} {n : Nat} (hn : n < 1000) (h : ¬ inR p 0 ((n : Int) - 1)) : fX0_isAunt N p (jI n) = some 0 := by
  unfold fX0_isAunt
  rw [in0_f N (a := 0) (b := (n : Int) - 1) (by decide) (jI_m1L hn) h, bnd1_some]; exact g0_f
theorem m_isAunt_f (N : Nat) {p : Int32} {n : Nat} {row : Nat → Int32} (e : row 26 = jI n) (hn : n < 1000) (h : ¬ inR p 0 ((n : Int) - 1)) : fX5_isAunt N p row = some 0 := by
  unfold fX5_isAunt
  rw [e, in5_f N (a := 0) (b := (n : Int) - 1) (by decide) (jI_m1 hn) h, bnd1_some]; exact g0_f
def ref (k : Nat) (rf : Nat → Int32) : Nat → Int32 := upd rf k (rf k + 1)
theorem x_bad (N : Nat) (rf : Nat → Int32) : fX0_bad N rf = some (-2, ref 0 rf) := by
  unfold fX0_bad fX0_refuses
  simp (disch := omega) only [grd_pos, grd_true, jI_le, jI_lt, jI_eq, jI_nat, jI_add, jI_mul, if_pos, if_neg, bnd1_some, bnd2_some, bnd3_some, bnd4_some, bnd5_some, bnd6_some, bnd7_some, nmd_e, true_and, and_true, cj_0, cj_1, cj_2, cj_3, cj_4, cj_5, cj_6, cj_7, cj_8, cj_9, cj_10, cj_11, cj_12, cj_13, cj_14, cj_15, cj_16, cj_19, cj_20, cj_23, cj_24, cj_26, cj_27, cj_28, cj_30, cj_31, cj_32, cj_35, cj_36, cj_37, cj_48, cj_49, cj_50, cj_51, cj_52, cj_57, cj_59, cj_60, cj_61, cj_73, cj_74, cj_75, cj_76, cj_77, cj_90, cj_97, cj_98, cj_99, cj_100, cj_109, cj_120, cj_122, cj_127, cj_150, cj_160, cj_179, cj_537, cj_547, cj_916, cj_9999, cj_1000000, cj_999999]; rfl
theorem x_no (N : Nat) (rf : Nat → Int32) : fX0_no N rf = some (-3, ref 1 rf) := by
  unfold fX0_no fX0_refuses
  simp (disch := omega) only [grd_pos, grd_true, jI_le, jI_lt, jI_eq, jI_nat, jI_add, jI_mul, if_pos, if_neg, bnd1_some, bnd2_some, bnd3_some, bnd4_some, bnd5_some, bnd6_some, bnd7_some, nmd_e, true_and, and_true, cj_0, cj_1, cj_2, cj_3, cj_4, cj_5, cj_6, cj_7, cj_8, cj_9, cj_10, cj_11, cj_12, cj_13, cj_14, cj_15, cj_16, cj_19, cj_20, cj_23, cj_24, cj_26, cj_27, cj_28, cj_30, cj_31, cj_32, cj_35, cj_36, cj_37, cj_48, cj_49, cj_50, cj_51, cj_52, cj_57, cj_59, cj_60, cj_61, cj_73, cj_74, cj_75, cj_76, cj_77, cj_90, cj_97, cj_98, cj_99, cj_100, cj_109, cj_120, cj_122, cj_127, cj_150, cj_160, cj_179, cj_537, cj_547, cj_916, cj_9999, cj_1000000, cj_999999]; rfl
theorem x_full (N : Nat) (rf : Nat → Int32) : fX0_full N rf = some (-4, ref 2 rf) := by
  unfold fX0_full fX0_refuses
  simp (disch := omega) only [grd_pos, grd_true, jI_le, jI_lt, jI_eq, jI_nat, jI_add, jI_mul, if_pos, if_neg, bnd1_some, bnd2_some, bnd3_some, bnd4_some, bnd5_some, bnd6_some, bnd7_some, nmd_e, true_and, and_true, cj_0, cj_1, cj_2, cj_3, cj_4, cj_5, cj_6, cj_7, cj_8, cj_9, cj_10, cj_11, cj_12, cj_13, cj_14, cj_15, cj_16, cj_19, cj_20, cj_23, cj_24, cj_26, cj_27, cj_28, cj_30, cj_31, cj_32, cj_35, cj_36, cj_37, cj_48, cj_49, cj_50, cj_51, cj_52, cj_57, cj_59, cj_60, cj_61, cj_73, cj_74, cj_75, cj_76, cj_77, cj_90, cj_97, cj_98, cj_99, cj_100, cj_109, cj_120, cj_122, cj_127, cj_150, cj_160, cj_179, cj_537, cj_547, cj_916, cj_9999, cj_1000000, cj_999999]; rfl
theorem x_badAsk (N : Nat) (rf : Nat → Int32) : fX0_badAsk N rf = some (-10, ref 0 rf) := by
  unfold fX0_badAsk fX0_refuses
  simp (disch := omega) only [grd_pos, grd_true, jI_le, jI_lt, jI_eq, jI_nat, jI_add, jI_mul, if_pos, if_neg, bnd1_some, bnd2_some, bnd3_some, bnd4_some, bnd5_some, bnd6_some, bnd7_some, nmd_e, true_and, and_true, cj_0, cj_1, cj_2, cj_3, cj_4, cj_5, cj_6, cj_7, cj_8, cj_9, cj_10, cj_11, cj_12, cj_13, cj_14, cj_15, cj_16, cj_19, cj_20, cj_23, cj_24, cj_26, cj_27, cj_28, cj_30, cj_31, cj_32, cj_35, cj_36, cj_37, cj_48, cj_49, cj_50, cj_51, cj_52, cj_57, cj_59, cj_60, cj_61, cj_73, cj_74, cj_75, cj_76, cj_77, cj_90, cj_97, cj_98, cj_99, cj_100, cj_109, cj_120, cj_122, cj_127, cj_150, cj_160, cj_179, cj_537, cj_547, cj_916, cj_9999, cj_1000000, cj_999999]; rfl
theorem x_refuses0 (N : Nat) (v : Int32) (rf : Nat → Int32) : fX0_refuses N 0 v rf = some (v, ref 0 rf) := by
  unfold fX0_refuses
  simp (disch := omega) only [grd_pos, grd_true, jI_le, jI_lt, jI_eq, jI_nat, jI_add, jI_mul, if_pos, if_neg, bnd1_some, bnd2_some, bnd3_some, bnd4_some, bnd5_some, bnd6_some, bnd7_some, nmd_e, true_and, and_true, cj_0, cj_1, cj_2, cj_3, cj_4, cj_5, cj_6, cj_7, cj_8, cj_9, cj_10, cj_11, cj_12, cj_13, cj_14, cj_15, cj_16, cj_19, cj_20, cj_23, cj_24, cj_26, cj_27, cj_28, cj_30, cj_31, cj_32, cj_35, cj_36, cj_37, cj_48, cj_49, cj_50, cj_51, cj_52, cj_57, cj_59, cj_60, cj_61, cj_73, cj_74, cj_75, cj_76, cj_77, cj_90, cj_97, cj_98, cj_99, cj_100, cj_109, cj_120, cj_122, cj_127, cj_150, cj_160, cj_179, cj_537, cj_547, cj_916, cj_9999, cj_1000000, cj_999999]; rfl
theorem m_refuse_bad (N : Nat) (rf : Nat → Int32) : fX5_refuse N (-2) rf = some (-2, ref 0 rf) := by
  unfold fX5_refuse
  rw [jn1_e, if_neg (by decide), if_neg (by decide)]
  simp (disch := omega) only [grd_pos, grd_true, jI_le, jI_lt, jI_eq, jI_nat, jI_add, jI_mul, if_pos, if_neg, bnd1_some, bnd2_some, bnd3_some, bnd4_some, bnd5_some, bnd6_some, bnd7_some, nmd_e, true_and, and_true, cj_0, cj_1, cj_2, cj_3, cj_4, cj_5, cj_6, cj_7, cj_8, cj_9, cj_10, cj_11, cj_12, cj_13, cj_14, cj_15, cj_16, cj_19, cj_20, cj_23, cj_24, cj_26, cj_27, cj_28, cj_30, cj_31, cj_32, cj_35, cj_36, cj_37, cj_48, cj_49, cj_50, cj_51, cj_52, cj_57, cj_59, cj_60, cj_61, cj_73, cj_74, cj_75, cj_76, cj_77, cj_90, cj_97, cj_98, cj_99, cj_100, cj_109, cj_120, cj_122, cj_127, cj_150, cj_160, cj_179, cj_537, cj_547, cj_916, cj_9999, cj_1000000, cj_999999]; rfl
theorem m_refuse_no (N : Nat) (rf : Nat → Int32) : fX5_refuse N (-3) rf = some (-3, ref 1 rf) := by
  unfold fX5_refuse
  rw [jn1_e, if_pos (by decide)]
  simp (disch := omega) only [grd_pos, grd_true, jI_le, jI_lt, jI_eq, jI_nat, jI_add, jI_mul, if_pos, if_neg, bnd1_some, bnd2_some, bnd3_some, bnd4_some, bnd5_some, bnd6_some, bnd7_some, nmd_e, true_and, and_true, cj_0, cj_1, cj_2, cj_3, cj_4, cj_5, cj_6, cj_7, cj_8, cj_9, cj_10, cj_11, cj_12, cj_13, cj_14, cj_15, cj_16, cj_19, cj_20, cj_23, cj_24, cj_26, cj_27, cj_28, cj_30, cj_31, cj_32, cj_35, cj_36, cj_37, cj_48, cj_49, cj_50, cj_51, cj_52, cj_57, cj_59, cj_60, cj_61, cj_73, cj_74, cj_75, cj_76, cj_77, cj_90, cj_97, cj_98, cj_99, cj_100, cj_109, cj_120, cj_122, cj_127, cj_150, cj_160, cj_179, cj_537, cj_547, cj_916, cj_9999, cj_1000000, cj_999999]; rfl
theorem m_refuse_full (N : Nat) (rf : Nat → Int32) : fX5_refuse N (-4) rf = some (-4, ref 2 rf) := by
  unfold fX5_refuse
  rw [jn1_e, if_neg (by decide), if_pos (by decide)]
  simp (disch := omega) only [grd_pos, grd_true, jI_le, jI_lt, jI_eq, jI_nat, jI_add, jI_mul, if_pos, if_neg, bnd1_some, bnd2_some, bnd3_some, bnd4_some, bnd5_some, bnd6_some, bnd7_some, nmd_e, true_and, and_true, cj_0, cj_1, cj_2, cj_3, cj_4, cj_5, cj_6, cj_7, cj_8, cj_9, cj_10, cj_11, cj_12, cj_13, cj_14, cj_15, cj_16, cj_19, cj_20, cj_23, cj_24, cj_26, cj_27, cj_28, cj_30, cj_31, cj_32, cj_35, cj_36, cj_37, cj_48, cj_49, cj_50, cj_51, cj_52, cj_57, cj_59, cj_60, cj_61, cj_73, cj_74, cj_75, cj_76, cj_77, cj_90, cj_97, cj_98, cj_99, cj_100, cj_109, cj_120, cj_122, cj_127, cj_150, cj_160, cj_179, cj_537, cj_547, cj_916, cj_9999, cj_1000000, cj_999999]; rfl
theorem m_badAs (N : Nat) (v : Int32) (rf : Nat → Int32) : fX5_badAs N v rf = some (v, ref 0 rf) := by
  unfold fX5_badAs
  rw [m_refuse_bad]; rfl
