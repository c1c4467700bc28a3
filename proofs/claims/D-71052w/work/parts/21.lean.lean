/-! PLAIN LAW 2: how one leans, damps, sounds; both sides -/
def plS (a c : Int32) : Int32 := if jrem c 4 = 1 then a else if jrem c 4 = 3 then -a else 0
def leanS (k : Nat) (a c : Int32) : Int32 := match k with
  | 0 => plS a c
  | 1 => if plS a c ≤ 0 then plS a c else plS a c + 1
  | 2 => plS a c / 2
  | 3 => if jrem c 3 = 0 then 0 else plS a c
  | 4 => if plS a (c + 1) ≤ 0 then plS a (c + 1) else plS a (c + 1) + 1
  | _ => 3 * (plS a c / 2)
def dpS (x : Int32) : Int32 := if x ≤ 2 then if x ≤ 0 then x else 0 else x - 2
def dampS (k : Nat) (x c : Int32) : Int32 := match k with
  | 0 => dpS x
  | 1 => if x ≤ 8 then dpS x else x / 2
  | 2 => dpS (dpS x)
  | 3 => if jrem c 2 = 0 then dpS x else x
  | 4 => if jrem c 5 = 4 then x else if jrem c 2 = 0 then dpS x else x
  | _ => if jrem c 4 = 0 then 0 else dpS (dpS x)
theorem pLt6 {k : Nat} (h : k < 6) : k = 0 ∨ k = 1 ∨ k = 2 ∨ k = 3 ∨ k = 4 ∨ k = 5 := by omega
theorem ites {α : Type} {p : Prop} {h1 h2 : Decidable p} {a b : α} {A B : Option α} (ha : p → A = some a) (hb : ¬ p → B = some b) : (@ite _ p h1 A B) = some (@ite _ p h2 a b) := by
  by_cases h : p
  · rw [if_pos h, if_pos h, ha h]
  · rw [if_neg h, if_neg h, hb h]
theorem x_pl (N : Nat) (a c : Int32) : fX7_leans N a c = some (plS a c) := by
  unfold fX7_leans plS; repeat' split
  all_goals rfl
theorem x_lean (N : Nat) {k : Nat} (hk : k < 6) (a c : Int32) : fdOne_leans N k a c = some (leanS k a c) := by
  rcases pLt6 hk with rfl | rfl | rfl | rfl | rfl | rfl
  · exact x_pl N a c
  · show fX11_leans N a c = _
    unfold fX11_leans; rw [x_pl, bnd1_some]; show _ = some (if _ then _ else _); split <;> rfl
  · show fX9_leans N a c = _
    unfold fX9_leans; rw [x_pl]; rfl
  · show fX10_leans N a c = _
    unfold fX10_leans; rw [x_pl]; show _ = some (if _ then _ else _); split <;> rfl
  · show fX12_leans N a c = _
    unfold fX12_leans fX11_leans; rw [x_pl]; show _ = some (if _ then _ else _); rw [bnd1_some]; split <;> rfl
  · show fX8_leans N a c = _
    unfold fX8_leans fX9_leans; rw [x_pl]; rfl
theorem jn1_pl {ρ : Type} (a c : Int32) (K : Int32 → Option ρ) : jn1 K (fun k => if (jrem c (4 : Int32)) = (1 : Int32) then k a else if (jrem c (4 : Int32)) = (3 : Int32) then k (-a) else k (0 : Int32)) = K (plS a c) := by
  unfold jn1 plS; repeat' split
  all_goals rfl
theorem m_lean (N : Nat) {k : Nat} (hk : k < 6) (a c : Int32) : fX5_leansBy N (jI k) a c = some (leanS k a c) := by
  unfold fX5_leansBy
  simp only [jn1_pl]
  unfold jn1
  rcases pLt6 hk with rfl | rfl | rfl | rfl | rfl | rfl
  all_goals simp only [cj_0, cj_1, cj_2, cj_3, cj_4, cj_5, jI_eq, Nat.reduceLT, Nat.reduceEqDiff, reduceIte, if_true, if_false, leanS]
  all_goals repeat' first | rfl | refine ites (fun _ => ?_) (fun _ => ?_)
theorem i32_le_zero (x : Int32) : (x ≤ 0) = (x.toInt ≤ 0) := by rw [Int32.le_iff_toInt_le]; rfl
theorem i32_lt_zero (x : Int32) : (x < 0) = (x.toInt < 0) := by rw [Int32.lt_iff_toInt_lt]; rfl
theorem i32_lt_one (x : Int32) : (x < 1) = (x.toInt < 1) := by rw [Int32.lt_iff_toInt_lt]; rfl
theorem i32_zero_lt (x : Int32) : (0 < x) = (0 < x.toInt) := by rw [Int32.lt_iff_toInt_lt]; rfl
theorem i32_lt_one_le (x : Int32) : (x < 1) = (x ≤ 0) := by rw [i32_lt_one, i32_le_zero]; exact propext ⟨fun h => by omega, fun h => by omega⟩
theorem jmin0 (x : Int32) : jmin 0 x = if x ≤ 0 then x else 0 := by
  unfold jmin
  simp only [i32_le_zero, i32_lt_zero]
  split
  · rw [if_pos (by omega)]
  · split
    · apply Int32.toInt_inj.mp
      have e : (0 : Int32).toInt = 0 := by decide
      omega
    · rfl
theorem x_dp (N : Nat) (x c : Int32) : fX13_damps N x c = some (dpS x) := by
  unfold fX13_damps dpS; rw [jmin0]; split <;> rfl
theorem x_damp (N : Nat) {k : Nat} (hk : k < 6) (a c : Int32) : fdAunt_damps N k a c = some (dampS k a c) := by
  rcases pLt6 hk with rfl | rfl | rfl | rfl | rfl | rfl
  · exact x_dp N a c
  · show fX16_damps N a c = _
    unfold fX16_damps; rw [x_dp, bnd1_some]; show _ = some (if _ then _ else _); split <;> rfl
  · show fX18_damps N a c = _
    unfold fX18_damps; rw [x_dp, bnd1_some, x_dp]; rfl
  · show fX15_damps N a c = _
    unfold fX15_damps; rw [x_dp]; show _ = some (if _ then _ else _); split <;> rfl
  · show fX14_damps N a c = _
    unfold fX14_damps fX15_damps; rw [x_dp]; show _ = some (if _ then _ else if _ then _ else _); split
    · rfl
    · split <;> rfl
  · show fX17_damps N a c = _
    unfold fX17_damps fX18_damps; rw [x_dp, bnd1_some, x_dp]; show _ = some (if _ then _ else _); split <;> rfl
theorem m_dp (N : Nat) (x : Int32) : fX5_dampedPlain N x = some (dpS x) := by
  unfold fX5_dampedPlain dpS; repeat' split
  all_goals rfl
theorem m_damp (N : Nat) {k : Nat} (hk : k < 6) (a c : Int32) : fX5_dampedBy N (jI k) a c = some (dampS k a c) := by
  unfold fX5_dampedBy
  simp only [m_dp, bnd1_some]
  rcases pLt6 hk with rfl | rfl | rfl | rfl | rfl | rfl
  all_goals simp only [cj_0, cj_1, cj_2, cj_3, cj_4, cj_5, jI_eq, Nat.reduceLT, Nat.reduceEqDiff, reduceIte, if_true, if_false, dampS]
  all_goals repeat' first | rfl | refine ites (fun _ => ?_) (fun _ => ?_)
theorem m_has (N : Nat) (s k : Int32) : fX5_has N s k = some (if ((jshr s k) &&& (1 : Int32)) = (1 : Int32) then 1 else 0) := by
  unfold fX5_has; split <;> rfl
/-- reading a row: how many, which kinds -/
def rn (row : Nat → Int32) : Nat := (row 11).toNatClampNeg
def rd (row : Nat → Int32) : Nat := (row 26).toNatClampNeg
def rK (row : Nat → Int32) (i : Nat) : Nat := (row (12 + i)).toNatClampNeg
def rA (row : Nat → Int32) (k : Nat) : Nat := (row (27 + k)).toNatClampNeg
def WS (row : Nat → Int32) : Prop := rn row ≤ 7 ∧ row 11 = jI (rn row) ∧ rd row ≤ 4 ∧ row 26 = jI (rd row) ∧ (∀ i, i < rn row → rK row i < 6 ∧ row (12 + i) = jI (rK row i)) ∧ (∀ k, k < rd row → rA row k < 6 ∧ row (27 + k) = jI (rA row k))
def XS (many dampers : Int32) (people aunts : Nat → Option Nat) (houses sides : Nat → Int32) (row : Nat → Int32) : Prop := many = jI (rn row) ∧ dampers = jI (rd row) ∧ (∀ i, i < rn row → people i = some (rK row i)) ∧ (∀ i, i < rn row → houses i = row (19 + i)) ∧ (∀ k, k < rd row → aunts k = some (rA row k)) ∧ (∀ k, k < rd row → sides k = row (31 + k))
def leanTo (A : Nat → Nat) (sd : Nat → Int32) (hi there c x : Int32) : Nat → Int32
  | 0 => x
  | k + 1 => if ((jshr there (jI k)) &&& (1 : Int32)) = (1 : Int32) then if sd k = hi then dampS (A k) (leanTo A sd hi there c x k) c else leanTo A sd hi there c x k else leanTo A sd hi there c x k
def leaningS (row sw : Nat → Int32) (there : Int32) (i : Nat) (c : Int32) : Int32 := leanTo (rA row) (fun k => row (31 + k)) (row (19 + i)) there c (leanS (rK row i) (sw i) c) (rd row)
theorem jI_1 (k : Nat) : jI k + (1 : Int32) = jI (k + 1) := jI_add k 1
theorem x_leans {N : Nat} {row : Nat → Int32} (hW : WS row) {people : Nat → Option Nat} {sw : Nat → Int32} {c : Int32} {i : Nat} (hi : i < rn row) (hp : people i = some (rK row i)) : fX1_leans N (jI i) c people sw = some (leanS (rK row i) (sw i) c) := by
  obtain ⟨h7, hn, h4, hd, hK, hA⟩ := hW
  unfold fX1_leans
  have hk := (hK i hi).1
  simp (disch := omega) only [grd_pos, grd_true, jI_le, jI_lt, jI_eq, jI_nat, jI_add, jI_mul, if_pos, if_neg, bnd1_some, bnd2_some, bnd3_some, bnd4_some, bnd5_some, bnd6_some, bnd7_some, nmd_e, true_and, and_true, cj_0, cj_1, cj_2, cj_3, cj_4, cj_5, cj_6, cj_7, cj_8, cj_9, cj_10, cj_11, cj_12, cj_13, cj_14, cj_15, cj_16, cj_19, cj_20, cj_23, cj_24, cj_26, cj_27, cj_28, cj_30, cj_31, cj_32, cj_35, cj_36, cj_37, cj_48, cj_49, cj_50, cj_51, cj_52, cj_57, cj_59, cj_60, cj_61, cj_73, cj_74, cj_75, cj_76, cj_77, cj_90, cj_97, cj_98, cj_99, cj_100, cj_109, cj_120, cj_122, cj_127, cj_150, cj_160, cj_179, cj_537, cj_547, cj_916, cj_9999, cj_1000000, cj_999999, hp, x_lean N hk]
theorem x_leaning {N : Nat} (hN : 10 ≤ N) {row : Nat → Int32} (hW : WS row) {many dampers : Int32} {people aunts : Nat → Option Nat} {houses sides : Nat → Int32} (hX : XS many dampers people aunts houses sides row) {sw : Nat → Int32} {there c : Int32} {i : Nat} (hi : i < rn row) : fX1_leaning N (jI i) c dampers people there sw sides houses aunts = some (leaningS row sw there i c) := by
  have hW' := hW
  obtain ⟨h7, hn, h4, hd, hK, hA⟩ := hW
  obtain ⟨e1, e2, e3, e4, e5, e6⟩ := hX
  unfold fX1_leaning
  rw [x_leans hW' hi (e3 i hi), bnd1_some]
  refine (whl2_seq (fun k => jI k) (fun k => leanTo (rA row) (fun k => row (31 + k)) (row (19 + i)) there c (leanS (rK row i) (sw i) c) k) (rd row) ?_ N (by omega)).trans ?_
  · intro k hk rec
    have hk6 := (hA k hk).1
    simp (disch := omega) only [grd_pos, grd_true, jI_le, jI_lt, jI_eq, jI_nat, jI_add, jI_mul, if_pos, if_neg, bnd1_some, bnd2_some, bnd3_some, bnd4_some, bnd5_some, bnd6_some, bnd7_some, nmd_e, true_and, and_true, cj_0, cj_1, cj_2, cj_3, cj_4, cj_5, cj_6, cj_7, cj_8, cj_9, cj_10, cj_11, cj_12, cj_13, cj_14, cj_15, cj_16, cj_19, cj_20, cj_23, cj_24, cj_26, cj_27, cj_28, cj_30, cj_31, cj_32, cj_35, cj_36, cj_37, cj_48, cj_49, cj_50, cj_51, cj_52, cj_57, cj_59, cj_60, cj_61, cj_73, cj_74, cj_75, cj_76, cj_77, cj_90, cj_97, cj_98, cj_99, cj_100, cj_109, cj_120, cj_122, cj_127, cj_150, cj_160, cj_179, cj_537, cj_547, cj_916, cj_9999, cj_1000000, cj_999999, e2, e6 k hk, e4 i hi, e5 k hk, x_damp N hk6, leanTo]
    repeat' split
    all_goals rename_i hb
    all_goals first | rfl | simp only [hb, if_true, if_false, *]
  · simp (disch := omega) only [grd_pos, grd_true, jI_le, jI_lt, jI_eq, jI_nat, jI_add, jI_mul, if_pos, if_neg, bnd1_some, bnd2_some, bnd3_some, bnd4_some, bnd5_some, bnd6_some, bnd7_some, nmd_e, true_and, and_true, cj_0, cj_1, cj_2, cj_3, cj_4, cj_5, cj_6, cj_7, cj_8, cj_9, cj_10, cj_11, cj_12, cj_13, cj_14, cj_15, cj_16, cj_19, cj_20, cj_23, cj_24, cj_26, cj_27, cj_28, cj_30, cj_31, cj_32, cj_35, cj_36, cj_37, cj_48, cj_49, cj_50, cj_51, cj_52, cj_57, cj_59, cj_60, cj_61, cj_73, cj_74, cj_75, cj_76, cj_77, cj_90, cj_97, cj_98, cj_99, cj_100, cj_109, cj_120, cj_122, cj_127, cj_150, cj_160, cj_179, cj_537, cj_547, cj_916, cj_9999, cj_1000000, cj_999999, e2]
    rfl
theorem m_leaning {N : Nat} (hN : 10 ≤ N) {row : Nat → Int32} (hW : WS row) {b : Nat} (hb : b = 0 ∨ b = 537) {c : Int32} {i : Nat} (hi : i < rn row) : fX5_leaning N (jI b) (jI i) c row = some (leaningS row (fun i => row (b + i)) (row (b + 7)) i c) := by
  have hb7 : b ≤ 537 := by omega
  obtain ⟨h7, hn, h4, hd, hK, hA⟩ := hW
  unfold fX5_leaning
  have hk := (hK i hi).1
  simp (disch := omega) only [grd_pos, grd_true, jI_le, jI_lt, jI_eq, jI_nat, jI_add, jI_mul, if_pos, if_neg, bnd1_some, bnd2_some, bnd3_some, bnd4_some, bnd5_some, bnd6_some, bnd7_some, nmd_e, true_and, and_true, cj_0, cj_1, cj_2, cj_3, cj_4, cj_5, cj_6, cj_7, cj_8, cj_9, cj_10, cj_11, cj_12, cj_13, cj_14, cj_15, cj_16, cj_19, cj_20, cj_23, cj_24, cj_26, cj_27, cj_28, cj_30, cj_31, cj_32, cj_35, cj_36, cj_37, cj_48, cj_49, cj_50, cj_51, cj_52, cj_57, cj_59, cj_60, cj_61, cj_73, cj_74, cj_75, cj_76, cj_77, cj_90, cj_97, cj_98, cj_99, cj_100, cj_109, cj_120, cj_122, cj_127, cj_150, cj_160, cj_179, cj_537, cj_547, cj_916, cj_9999, cj_1000000, cj_999999, (hK i hi).2, m_lean N hk, hd]
  refine (whl2_seq (fun k => jI k) (fun k => leanTo (rA row) (fun k => row (31 + k)) (row (19 + i)) (row (b + 7)) c (leanS (rK row i) (row (b + i)) c) k) (rd row) ?_ N (by omega)).trans ?_
  · intro k hk rec
    have hk6 := (hA k hk).1
    simp (disch := omega) only [grd_pos, grd_true, jI_le, jI_lt, jI_eq, jI_nat, jI_add, jI_mul, if_pos, if_neg, bnd1_some, bnd2_some, bnd3_some, bnd4_some, bnd5_some, bnd6_some, bnd7_some, nmd_e, true_and, and_true, cj_0, cj_1, cj_2, cj_3, cj_4, cj_5, cj_6, cj_7, cj_8, cj_9, cj_10, cj_11, cj_12, cj_13, cj_14, cj_15, cj_16, cj_19, cj_20, cj_23, cj_24, cj_26, cj_27, cj_28, cj_30, cj_31, cj_32, cj_35, cj_36, cj_37, cj_48, cj_49, cj_50, cj_51, cj_52, cj_57, cj_59, cj_60, cj_61, cj_73, cj_74, cj_75, cj_76, cj_77, cj_90, cj_97, cj_98, cj_99, cj_100, cj_109, cj_120, cj_122, cj_127, cj_150, cj_160, cj_179, cj_537, cj_547, cj_916, cj_9999, cj_1000000, cj_999999, m_has, (hA k hk).2, m_damp N hk6, leanTo]
    by_cases hq : (jshr (row (b + 7)) (jI k)) &&& jI 1 = jI 1
    · by_cases hs : row (31 + k) = row (19 + i) <;> simp (disch := omega) only [grd_pos, grd_true, jI_le, jI_lt, jI_eq, jI_nat, jI_add, jI_mul, if_pos, if_neg, bnd1_some, bnd2_some, bnd3_some, bnd4_some, bnd5_some, bnd6_some, bnd7_some, nmd_e, true_and, and_true, cj_0, cj_1, cj_2, cj_3, cj_4, cj_5, cj_6, cj_7, cj_8, cj_9, cj_10, cj_11, cj_12, cj_13, cj_14, cj_15, cj_16, cj_19, cj_20, cj_23, cj_24, cj_26, cj_27, cj_28, cj_30, cj_31, cj_32, cj_35, cj_36, cj_37, cj_48, cj_49, cj_50, cj_51, cj_52, cj_57, cj_59, cj_60, cj_61, cj_73, cj_74, cj_75, cj_76, cj_77, cj_90, cj_97, cj_98, cj_99, cj_100, cj_109, cj_120, cj_122, cj_127, cj_150, cj_160, cj_179, cj_537, cj_547, cj_916, cj_9999, cj_1000000, cj_999999, hq, hs, if_true, if_false]
    · simp (disch := omega) only [grd_pos, grd_true, jI_le, jI_lt, jI_eq, jI_nat, jI_add, jI_mul, if_pos, if_neg, bnd1_some, bnd2_some, bnd3_some, bnd4_some, bnd5_some, bnd6_some, bnd7_some, nmd_e, true_and, and_true, cj_0, cj_1, cj_2, cj_3, cj_4, cj_5, cj_6, cj_7, cj_8, cj_9, cj_10, cj_11, cj_12, cj_13, cj_14, cj_15, cj_16, cj_19, cj_20, cj_23, cj_24, cj_26, cj_27, cj_28, cj_30, cj_31, cj_32, cj_35, cj_36, cj_37, cj_48, cj_49, cj_50, cj_51, cj_52, cj_57, cj_59, cj_60, cj_61, cj_73, cj_74, cj_75, cj_76, cj_77, cj_90, cj_97, cj_98, cj_99, cj_100, cj_109, cj_120, cj_122, cj_127, cj_150, cj_160, cj_179, cj_537, cj_547, cj_916, cj_9999, cj_1000000, cj_999999, hq, if_true, if_false]
  · simp (disch := omega) only [grd_pos, grd_true, jI_le, jI_lt, jI_eq, jI_nat, jI_add, jI_mul, if_pos, if_neg, bnd1_some, bnd2_some, bnd3_some, bnd4_some, bnd5_some, bnd6_some, bnd7_some, nmd_e, true_and, and_true, cj_0, cj_1, cj_2, cj_3, cj_4, cj_5, cj_6, cj_7, cj_8, cj_9, cj_10, cj_11, cj_12, cj_13, cj_14, cj_15, cj_16, cj_19, cj_20, cj_23, cj_24, cj_26, cj_27, cj_28, cj_30, cj_31, cj_32, cj_35, cj_36, cj_37, cj_48, cj_49, cj_50, cj_51, cj_52, cj_57, cj_59, cj_60, cj_61, cj_73, cj_74, cj_75, cj_76, cj_77, cj_90, cj_97, cj_98, cj_99, cj_100, cj_109, cj_120, cj_122, cj_127, cj_150, cj_160, cj_179, cj_537, cj_547, cj_916, cj_9999, cj_1000000, cj_999999]
    rfl
