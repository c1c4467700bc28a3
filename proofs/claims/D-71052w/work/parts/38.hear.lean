/-! PLAIN LAW 19: hear -/
theorem twS_mono {x y : Int32} {w : Nat} (hx : small x = true) (hy : small y = true) (hw : w + 1 ≤ 30) (h : twS x y (jI w) = 0) : twS x y (jI (w + 1)) = 0 := by
  unfold twS at h ⊢
  by_cases h1 : x < 1
  · rw [if_pos h1]
  · rw [if_neg h1] at h ⊢
    by_cases h2 : y < 1
    · rw [if_pos h2]
    · rw [if_neg h2] at h ⊢
      obtain ⟨a, ha, rfl⟩ := small_pos hx h1
      obtain ⟨b, hb, rfl⟩ := small_pos hy h2
      rw [jI_add] at h ⊢
      by_cases h3 : jI (a + b) < jI w
      · rw [jI_lt (by omega) (by omega)] at h3
        rw [if_pos (by rw [jI_lt (by omega) (by omega)]; omega)]
      · rw [if_neg h3] at h
        rw [jI_lt (by omega) (by omega)] at h3
        rw [jI_sub (by omega), jI_1, jI_0e _ (by omega)] at h
        omega
theorem sumTo_z {f : Nat → Int32} : ∀ m, m ≤ 49 → (∀ k, k < m → ∃ z, z ≤ 25 ∧ f k = jI z) → sumTo f m = 0 → ∀ k, k < m → f k = 0 := by
  intro m
  induction m with
  | zero => intro _ _ _ k hk; omega
  | succ m ih =>
    intro hm h h0
    obtain ⟨a, ha, ea⟩ := sumTo_le m (fun k hk => h k (by omega))
    obtain ⟨b, hb, eb⟩ := h m (by omega)
    have h1 : sumTo f m + f m = 0 := h0
    rw [ea, eb, jI_add, jI_0e _ (by omega)] at h1
    intro k hk
    by_cases e : k = m
    · subst e; rw [eb, (by omega : b = 0)]; rfl
    · exact ih (by omega) (fun k hk => h k (by omega)) (by rw [ea, (by omega : a = 0)]; rfl) k (by omega)
theorem sumTo_0 {f : Nat → Int32} : ∀ m, (∀ k, k < m → f k = 0) → sumTo f m = 0 := by
  intro m
  induction m with
  | zero => intro _; rfl
  | succ m ih =>
    intro h
    show sumTo f m + f m = 0
    rw [ih (fun k hk => h k (by omega)), h m (by omega)]; rfl
theorem termS_le {row sw : Nat → Int32} {there c but : Int32} {w : Nat} (hW : WS row) (hs : SwOk row sw) (hw : w ≤ 30) {i j : Nat} (hi : i < rn row) (hj : j < rn row) : ∃ z, z ≤ 25 ∧ termS row sw there (jI w) c but i j = jI z := by
  unfold termS
  split
  · exact twS_le (leaningS_small hW hi (hs _ hi)) (leaningS_small hW hj (hs _ hj)) hw
  · exact ⟨0, by omega, rfl⟩
theorem soundS_mono {row sw : Nat → Int32} {there c but : Int32} {w : Nat} (hW : WS row) (hs : SwOk row sw) (hw : w + 1 ≤ 30) (h : soundS row sw there (jI w) c but = 0) : soundS row sw there (jI (w + 1)) c but = 0 := by
  have hnn : rn row * rn row ≤ 7 * 7 := Nat.mul_le_mul hW.1 hW.1
  unfold soundS at h ⊢
  have hz := sumTo_z _ (by omega) (fun k hk => by obtain ⟨hi, hj⟩ := divmod_lt hk; exact termS_le hW hs (by omega) hi hj) h
  apply sumTo_0
  intro k hk
  obtain ⟨hi, hj⟩ := divmod_lt hk
  have h2 := hz k hk
  show termS row sw there (jI (w + 1)) c but (k / rn row) (k % rn row) = 0
  have h3 : termS row sw there (jI w) c but (k / rn row) (k % rn row) = 0 := h2
  unfold termS at h3 ⊢
  split at h3
  · rename_i hc
    rw [if_pos hc]
    exact twS_mono (leaningS_small hW hi (hs _ hi)) (leaningS_small hW hj (hs _ hj)) hw h3
  · rename_i hc
    rw [if_neg hc]
theorem soundS_mono2 {row sw : Nat → Int32} {there c but : Int32} (hW : WS row) (hs : SwOk row sw) {w : Nat} (h : soundS row sw there (jI w) c but = 0) : ∀ n, w + n ≤ 30 → soundS row sw there (jI (w + n)) c but = 0 := by
  intro n
  induction n with
  | zero => intro _; exact h
  | succ n ih => intro hn; exact soundS_mono hW hs hn (ih (by omega))
theorem allZ_iff {f : Nat → Int32} : ∀ r k, (allZ f r k = 0 ↔ ¬ ∀ j, k ≤ j → j < k + r → f j = 0) := by
  intro r
  induction r with
  | zero =>
    intro k
    refine ⟨fun h => absurd h (by decide), fun h => absurd (fun j h1 h2 => ?_) h⟩
    omega
  | succ r ih =>
    intro k
    simp only [allZ]
    by_cases hz : f k = 0
    · rw [if_pos hz, ih (k + 1)]
      constructor
      · intro h h2; exact h (fun j h3 h4 => h2 j (by omega) (by omega))
      · intro h h2
        apply h
        intro j h3 h4
        by_cases e : j = k
        · rw [e]; exact hz
        · exact h2 j (by omega) (by omega)
    · rw [if_neg hz]
      refine ⟨fun _ h2 => hz (h2 k (by omega) (by omega)), fun _ => rfl⟩
/-- in lanes that lie between two that are so, all is so -/
theorem soS_conv {row sw : Nat → Int32} {th : Int32} (hW : WS row) (hs : SwOk row sw) {a k c : Nat} (h1 : a < k) (h2 : k < c) (h3 : c ≤ 30) (ha : ¬ soS row sw th (jI a) = 0) (hc : ¬ soS row sw th (jI c) = 0) : ¬ soS row sw th (jI k) = 0 := by
  unfold soS at ha hc ⊢
  rw [allZ_iff, Classical.not_not] at ha hc ⊢
  intro j j1 j2
  have ha := ha j j1 j2
  have hc := hc j j1 j2
  have m1 : soundS row sw th (jI a) (row (36 + 2 * j)) (-1) ≤ 0 → soundS row sw th (jI k) (row (36 + 2 * j)) (-1) ≤ 0 := by
    intro h
    rw [soundS_0 hW hs (by omega)] at h ⊢
    have := soundS_mono2 hW hs h (k - a) (by omega)
    rwa [show a + (k - a) = k by omega] at this
  have m2 : soundS row sw th (jI k) (row (36 + 2 * j)) (-1) ≤ 0 → soundS row sw th (jI c) (row (36 + 2 * j)) (-1) ≤ 0 := by
    intro h
    rw [soundS_0 hW hs (by omega)] at h ⊢
    have := soundS_mono2 hW hs h (c - k) (by omega)
    rwa [show k + (c - k) = c by omega] at this
  unfold soF at ha hc ⊢
  by_cases hb : row (36 + 2 * j + 1) = 1
  · by_cases hk : soundS row sw th (jI k) (row (36 + 2 * j)) (-1) ≤ 0
    · have hk2 := m2 hk
      simp only [hb, hk2, if_true, zero_eq_one, if_false] at hc
      exact absurd hc (by decide)
    · simp only [hb, hk, if_true, if_false]
  · by_cases hk : soundS row sw th (jI k) (row (36 + 2 * j)) (-1) ≤ 0
    · simp only [hb, hk, if_true, if_false]
    · have hk2 : ¬ soundS row sw th (jI a) (row (36 + 2 * j)) (-1) ≤ 0 := fun h => hk (m1 h)
      simp only [hb, hk2, if_false, one_eq_zero] at ha
      exact absurd ha (by decide)
def msk (a b : Nat) : Int32 := jI (2 ^ b - 2 ^ a)
theorem or_msk1 : ∀ k, k < 27 → ((0 : Int32) ||| jshl (1 : Int32) (jI k)) = msk k (k + 1) := by decide +kernel
theorem or_msk2 : ∀ a, a < 27 → ∀ k, k < 27 → a < k → (msk a k ||| jshl (1 : Int32) (jI k)) = msk a (k + 1) := by decide +kernel
theorem or_0 (x : Int32) : x ||| (0 : Int32) = x := Int32.or_zero
theorem orGo_msk {A : Nat → Prop} {b : Nat → Int32} (hb : ∀ k, k < 27 → (A k → b k = jshl (1 : Int32) (jI k)) ∧ (¬ A k → b k = 0)) (hc : ∀ a k c, a < k → k < c → c < 27 → A a → A c → A k) : ∃ x y, x ≤ y ∧ y ≤ 27 ∧ orGo b 27 0 0 = msk x y := by
  have key : ∀ r k acc, k + r = 27 → ((acc = 0 ∧ ∀ j, j < k → ¬ A j) ∨ (∃ a, a < k ∧ acc = msk a k ∧ A a) ∨ (∃ a y, a < y ∧ y ≤ k ∧ acc = msk a y ∧ ∀ j, k ≤ j → j < 27 → ¬ A j)) → ∃ x y, x ≤ y ∧ y ≤ 27 ∧ orGo b r k acc = msk x y := by
    intro r
    induction r with
    | zero =>
      intro k acc hk hp
      rcases hp with ⟨h1, _⟩ | ⟨a, h1, h2, _⟩ | ⟨a, y, h1, h2, h3, _⟩
      · exact ⟨0, 0, by omega, by omega, by rw [h1]; rfl⟩
      · exact ⟨a, k, by omega, by omega, h2⟩
      · exact ⟨a, y, by omega, by omega, h3⟩
    | succ r ih =>
      intro k acc hk hp
      have hk27 : k < 27 := by omega
      obtain ⟨b1, b2⟩ := hb k hk27
      show ∃ x y, x ≤ y ∧ y ≤ 27 ∧ orGo b r (k + 1) (acc ||| b k) = msk x y
      apply ih (k + 1) _ (by omega)
      by_cases hA : A k
      · rw [b1 hA]
        rcases hp with ⟨h1, _⟩ | ⟨a, h1, h2, h3⟩ | ⟨a, y, h1, h2, h3, h4⟩
        · right; left
          exact ⟨k, by omega, by rw [h1, or_msk1 k hk27], hA⟩
        · right; left
          exact ⟨a, by omega, by rw [h2, or_msk2 a (by omega) k hk27 h1], h3⟩
        · exact absurd hA (h4 k (by omega) hk27)
      · rw [b2 hA, or_0]
        rcases hp with ⟨h1, h2⟩ | ⟨a, h1, h2, h3⟩ | ⟨a, y, h1, h2, h3, h4⟩
        · left
          refine ⟨h1, fun j hj => ?_⟩
          by_cases e : j = k
          · rw [e]; exact hA
          · exact h2 j (by omega)
        · right; right
          refine ⟨a, k, h1, by omega, h2, fun j j1 j2 => fun hj => ?_⟩
          exact hA (hc a k j h1 (by omega) j2 h3 hj)
        · right; right
          exact ⟨a, y, h1, by omega, h3, fun j j1 j2 => h4 j (by omega) j2⟩
  exact key 27 0 0 (by omega) (Or.inl ⟨rfl, fun j hj => absurd hj (by omega)⟩)
theorem laS_msk {row : Nat → Int32} (hW : WS row) (hs : SwOk row row) : ∃ x y, x ≤ y ∧ y ≤ 27 ∧ laS row = msk x y := by
  refine orGo_msk (A := fun k => ¬ soS row row (row 7) (jI (4 + k)) = 0) (b := laB row) ?_ ?_
  · intro k hk
    unfold laB
    exact ⟨fun h => if_neg h, fun h => if_pos (Classical.not_not.mp h)⟩
  · intro a k c h1 h2 h3 ha hc
    exact soS_conv hW hs (by omega : 4 + a < 4 + k) (by omega : 4 + k < 4 + c) (by omega) ha hc
theorem x_bc_msk (N : Nat) : ∀ y, y < 28 → ∀ x, x < y + 1 → fJ7_bitCount N (msk x y) = some (jI (y - x)) := by
  unfold fJ7_bitCount
  decide +kernel
theorem bit_msk : ∀ y, y < 28 → ∀ x, x < y + 1 → ∀ k, k < 31 → (jshr (msk x y) (jI k) &&& (1 : Int32)) = if x ≤ k ∧ k < y then 1 else 0 := by decide +kernel
theorem msk_0 : ∀ y, y < 28 → ∀ x, x < y + 1 → (msk x y = 0 ↔ x = y) := by decide +kernel
theorem m_bits_msk {N : Nat} (hN : 1000 ≤ N) {x y : Nat} (hy : y < 28) (hx : x < y + 1) : fX5_bits N (msk x y) = some (jI (y - x)) := by
  unfold fX5_bits
  refine (whl2_seq (fun k => jI k) (fun k => jI (min k y - x)) 31 ?_ N (by omega)).trans ?_
  · intro k hk rec
    rw [bit_msk y hy x hx k hk, if_neg (nle cj_31 hk (by omega)), jI_1]
    congr 1
    by_cases h : x ≤ k ∧ k < y
    · rw [if_pos h, cj_1, jI_add]; congr 1; omega
    · rw [if_neg h, cj_0, jI_add]; congr 1; omega
  · rw [if_pos (ple cj_31 (by omega) (by omega))]
    congr 2
    omega
def cnT (p : Nat → Bool) : Nat → Nat
  | 0 => 0
  | k + 1 => cnT p k + (if p k = true then 1 else 0)
theorem cnT_le {p : Nat → Bool} {x y : Nat} (h : ∀ k, p k = true → x ≤ k ∧ k < y) : ∀ k, cnT p k ≤ min k y - x := by
  intro k
  induction k with
  | zero => simp only [cnT]; omega
  | succ k ih =>
    simp only [cnT]
    split
    · rename_i hp
      have := h k hp
      omega
    · omega
def lI (F : Int32) (l : Option Nat) : Int32 := match l with
  | none => F
  | some v => jI v
def hNx (g : Nat → Nat) (k : Nat) (s : Option Nat × Int32) : Option Nat × Int32 := match s.1 with
  | none => (some (g k), jI k)
  | some v => if v ≤ g k then s else (some (g k), jI k)
def hGo (g : Nat → Nat) : Nat → Nat → Option Nat × Int32 → Int32
  | 0, _, s => s.2
  | r + 1, k, s => hGo g r (k + 1) (hNx g k s)
theorem hGo_s {g : Nat → Nat} {n k : Nat} {s : Option Nat × Int32} {V : Int32} (hk : k < n) (h : hGo g (n - k) k s = V) : hGo g (n - (k + 1)) (k + 1) (hNx g k s) = V := by
  have e : n - k = (n - (k + 1)) + 1 := by omega
  rw [e] at h
  exact h
theorem hGo_e {g : Nat → Nat} {n k : Nat} {s : Option Nat × Int32} {V : Int32} (hk : ¬ k < n) (h : hGo g (n - k) k s = V) : s.2 = V := by
  have e : n - k = 0 := by omega
  rw [e] at h
  exact h
theorem jmax_nat {a b : Nat} (ha : a < 1000) (hb : b < 1000) : jmax (jI a) (jI b) = jI (max a b) := by
  unfold jmax
  by_cases h : a < b
  · rw [if_pos (by rw [jI_lt (by omega) (by omega)]; exact h)]; congr 1; omega
  · rw [if_neg (by rw [jI_lt (by omega) (by omega)]; exact h)]; congr 1; omega
/-- one step of the search for the least: both sides' ways -/
theorem least_x {F : Int32} {Fn B v k : Nat} (eF : F = jI Fn) (hF : Fn < 2147483648) (hB : B < Fn) (l : Option Nat) (fd : Int32) (hl : ∀ u, l = some u → u ≤ B) (hv : v ≤ B) {ρ : Type} {Q : Option ρ → Prop} {K : Int32 → Int32 → Option ρ} (h : Q (K (lI F (hNx (fun _ => v) k (l, fd)).1) (hNx (fun _ => v) k (l, fd)).2)) : Q (if lI F l ≤ jI v then K (jmin (lI F l) (jI v)) fd else K (jmin (lI F l) (jI v)) (jI k)) := by
  cases l with
  | none =>
    have e : jmin (lI F none) (jI v) = jI v := by
      unfold jmin lI
      rw [eF, if_pos (by rw [jI_lt (by omega) (by omega)]; omega)]
    rw [e, if_neg (by unfold lI; rw [eF, jI_le (by omega) (by omega)]; omega)]
    exact h
  | some u =>
    have hu := hl u rfl
    by_cases c : u ≤ v
    · have e : jmin (lI F (some u)) (jI v) = jI u := by
        unfold jmin lI
        by_cases c2 : v < u
        · omega
        · rw [if_neg (by rw [jI_lt (by omega) (by omega)]; exact c2)]
      rw [e, if_pos (by unfold lI; rw [jI_le (by omega) (by omega)]; exact c)]
      simp only [hNx, c, if_true, lI] at h
      exact h
    · have e : jmin (lI F (some u)) (jI v) = jI v := by
        unfold jmin lI
        rw [if_pos (by rw [jI_lt (by omega) (by omega)]; omega)]
      rw [e, if_neg (by unfold lI; rw [jI_le (by omega) (by omega)]; exact c)]
      simp only [hNx, c, if_false, lI] at h
      exact h
theorem least_m {F : Int32} {Fn B v k : Nat} (eF : F = jI Fn) (hF : Fn < 2147483648) (hB : B < Fn) (l : Option Nat) (fd : Int32) (hl : ∀ u, l = some u → u ≤ B) (hv : v ≤ B) {ρ : Type} {Q : Option ρ → Prop} {K : Int32 → Int32 → Option ρ} (h : Q (K (lI F (hNx (fun _ => v) k (l, fd)).1) (hNx (fun _ => v) k (l, fd)).2)) : Q (if lI F l ≤ jI v then K (lI F l) fd else K (jI v) (jI k)) := by
  cases l with
  | none =>
    rw [if_neg (by unfold lI; rw [eF, jI_le (by omega) (by omega)]; omega)]
    exact h
  | some u =>
    have hu := hl u rfl
    by_cases c : u ≤ v
    · rw [if_pos (by unfold lI; rw [jI_le (by omega) (by omega)]; exact c)]
      simp only [hNx, c, if_true] at h
      exact h
    · rw [if_neg (by unfold lI; rw [jI_le (by omega) (by omega)]; exact c)]
      simp only [hNx, c, if_false, lI] at h
      exact h
theorem hNx_ok {B v k : Nat} {l : Option Nat} {fd : Int32} (hl : ∀ u, l = some u → u ≤ B) (hv : v ≤ B) : ∀ u, (hNx (fun _ => v) k (l, fd)).1 = some u → u ≤ B := by
  intro u hu
  cases l with
  | none =>
    have hu2 : some v = some u := hu
    cases hu2; exact hv
  | some w =>
    by_cases c : w ≤ v
    · simp only [hNx, c, if_true] at hu
      exact hl u hu
    · simp only [hNx, c, if_false] at hu
      have hu2 : some v = some u := hu
      cases hu2; exact hv
theorem hNx_v {g : Nat → Nat} {k : Nat} (s : Option Nat × Int32) : hNx g k s = hNx (fun _ => g k) k s := rfl
theorem ite3 {α : Type} {p : Prop} {i1 i2 i3 : Decidable p} {A B C D : α} : @ite α p i1 (@ite α p i2 A B) (@ite α p i3 C D) = @ite α p i1 A D := by
  by_cases h : p
  · rw [if_pos h, if_pos h, if_pos h]
  · rw [if_neg h, if_neg h, if_neg h]
theorem jn_0 (n : Nat) : jI n + (0 : Int32) = jI n := Int32.add_zero _
theorem op_hear {N : Nat} (hN : 1000 ≤ N) {w : Int32} {m : Int32} {d : Int32} {h : Int32} {t : Int32} {q : Int32} {u : Int32} {pe : Nat → Option Nat} {ho : Nat → Int32} {au : Nat → Option Nat} {si : Nat → Int32} {he : Nat → Int32} {no : Nat → Int32} {ma : Nat → Int32} {th : Int32} {ns : Int32} {ct : Int32} {sw : Nat → Int32} {ws : Nat → Nat → Int32} {wt : Nat → Int32} {wn : Nat → Int32} {wc : Nat → Int32} {im : Nat → Option LT} {tx : Nat → Int32} {ty : Int32} {row kept words : Nat → Int32} (H : RR (w, m, d, h, t, q, u, pe, ho, au, si, he, no, ma, th, ns, ct, sw, ws, wt, wn, wc) im tx ty row kept words)  (lea : Nat → Int32) : ∃ (r : Int32) (lea' : Nat → Int32), fX0_hear N m d h he ho pe th sw si au = some r ∧ fX5_hear N row lea = some (r, lea') ∧ RR (w, m, d, h, t, q, u, pe, ho, au, si, he, no, ma, th, ns, ct, sw, ws, wt, wn, wc) im tx ty row kept words := by
  have H' := H
  obtain ⟨⟨ga, gw, gh, gt, gq, gs, gu⟩, gi, gx, gW⟩ := H'
  have ga' := ga
  obtain ⟨hW, hX, okp, oka, h01⟩ := ga'
  have hX' := hX
  obtain ⟨em, ed, e3, e4, e5, e6⟩ := hX'
  have hW' := hW
  obtain ⟨h7, hn, h4, hd, hK, hA⟩ := hW'
  have hn1 : rn row < 1000 := by omega
  have hd1 : rd row < 1000 := by omega
  have es : ∀ i, i < rn row → sw i = row i := fun i hi => by have := (gs.2.2.2.2 i hi).1; rwa [Nat.zero_add] at this
  have e7 : row 7 = th := gs.1
  have e9 : row 9 = ct := gs.2.2.1
  have e10 : row 10 = w := gw.1
  have hso := SwOk_now gs
  obtain ⟨a, b, hab, hb27, hL⟩ := laS_msk hW hso
  have hxl : fX0_lanes N m d h he ho pe th sw si au = some (msk a b) := by rw [x_lanes hN hW hX gh es e7, hL]
  obtain ⟨l1, hml⟩ := m_lanes hN hW (GL6 gh) lea
  rw [hL] at hml
  obtain ⟨f, hf⟩ : ∃ f : Nat → Nat → Int32, ∀ c k, f c k = soundS row row th (jI (4 + k)) (jI c) (-1) := ⟨_, fun _ _ => rfl⟩
  obtain ⟨p, hp⟩ : ∃ p : Nat → Nat → Bool, ∀ c k, p c k = (decide (a ≤ k ∧ k < b) && !decide (f c k ≤ 0)) := ⟨_, fun _ _ => rfl⟩
  have hpl : ∀ c k, p c k = true → a ≤ k ∧ k < b := by
    intro c k h
    rw [hp, Bool.and_eq_true, decide_eq_true_eq] at h
    exact h.1
  have hcn : ∀ c k, cnT (p c) k ≤ min k b - a := fun c k => cnT_le (hpl c) k
  obtain ⟨g, hg⟩ : ∃ g : Nat → Nat, ∀ c, g c = max (cnT (p c) 27) (b - a - cnT (p c) 27) := ⟨_, fun _ => rfl⟩
  have hg27 : ∀ c, g c ≤ 27 := fun c => by have := hcn c 27; rw [hg]; omega
  obtain ⟨V, hV⟩ : ∃ V, (if a = b then -1 else hGo g 24 0 (none, -1)) = V := ⟨_, rfl⟩
  have hx : fX0_hear N m d h he ho pe th sw si au = some V := by
    obtain ⟨Q, hQ⟩ : ∃ Q : Option (Int32) → Prop, Q = fun X => X = some V := ⟨_, rfl⟩
    have hq : Q (fX0_hear N m d h he ho pe th sw si au) := by
      unfold fX0_hear
      rw [hxl, bnd1_some, x_bc_msk N b (by omega) a (by omega), bnd1_some]
      by_cases hab2 : a = b
      · rw [if_pos hab2] at hV
        refine whl3_Q Q (fun k x y z => z = -1) 0 ?_ N (by omega) _ _ _ rfl
        intro k hk x y z hp rec hr
        subst hp
        rw [show b - a = 0 by omega, if_pos (show jI 0 ≤ (0 : Int32) by decide)]
        refine orQ (fun _ => ?_) (fun _ => ?_)
        all_goals rw [hQ, hV]
      · rw [if_neg hab2] at hV
        have hne : ¬ jI (b - a) ≤ (0 : Int32) := nle2 cj_0 (by omega) (by omega)
        refine whl3_Q Q (fun c x y z => x = jI c ∧ ∃ l, y = lI 1000000 l ∧ (∀ u, l = some u → u ≤ 27) ∧ hGo g (24 - c) c (l, z) = V) 24 ?_ N (by omega) _ _ _ ⟨rfl, none, rfl, (fun u hu => by cases hu), hV⟩
        intro c hc x y z hp1 rec hr
        obtain ⟨rfl, l, rfl, hl, hgo⟩ := hp1
        by_cases hlt : c < 24
        · rw [if_neg (nle cj_24 hlt (by omega)), if_neg hne]
          refine whl2_Q Q (fun k x n => x = jI (4 + k) ∧ n = jI (cnT (p c) k)) 27 ?_ N (by omega) _ _ ⟨rfl, rfl⟩
          intro k hk x n hp1 rec2 hr2
          obtain ⟨rfl, rfl⟩ := hp1
          have hn := hcn c k
          by_cases hlt2 : k < 27
          · rw [if_neg (nlt cj_30 (by omega) (by omega)), jI_4, bit_msk b (by omega) a (by omega) k (by omega), jn_0]
            by_cases hin : a ≤ k ∧ k < b
            · rw [if_pos hin, if_pos rfl, x_soundBut (by omega) hW hX, bnd1_some, soundS_cong es, ← hf]
              by_cases hz : f c k ≤ 0
              · rw [if_pos hz]
                refine hr2 hlt2 _ _ ⟨jI_1 _, ?_⟩
                simp only [cnT, hp, hin, hz, decide_true, Bool.not_true, Bool.and_false, Bool.false_eq_true, if_false, Nat.add_zero]
              · rw [if_neg hz]
                refine hr2 hlt2 _ _ ⟨jI_1 _, ?_⟩
                simp only [cnT, hp, hin, hz, decide_true, decide_false, Bool.not_false, Bool.and_true, if_true, and_self]
                exact jI_1 _
            · rw [if_neg hin, if_neg (by decide)]
              refine hr2 hlt2 _ _ ⟨jI_1 _, ?_⟩
              simp only [cnT, hp, hin, decide_false, Bool.false_and, Bool.false_eq_true, if_false, Nat.add_zero]
          · have e27 : k = 27 := by omega
            subst e27
            rw [if_pos (plt cj_30 (by omega) (by omega)), jI_sub (by omega), jmax_nat (by omega) (by omega), ← hg]
            simp only [jn1_e, jn0_e, one_eq_zero, zero_eq_one, if_true, if_false]
            refine least_x (F := 1000000) (Fn := 1000000) (B := 27) (K := fun a b => rec (jI c + (1 : Int32)) a b) rfl (by omega) (by omega) l z hl (hg27 c) ?_
            exact hr hlt _ _ _ ⟨jI_1 c, _, rfl, hNx_ok hl (hg27 c), hGo_s hlt hgo⟩
        · rw [if_pos (ple cj_24 (by omega) (by omega)), hQ, ← hGo_e hlt hgo]
    rw [hQ] at hq; exact hq
  have hm : ∃ lea', fX5_hear N row lea = some (V, lea') := by
    obtain ⟨Q, hQ⟩ : ∃ Q : Option (Int32 × (Nat → Int32)) → Prop, Q = fun X => ∃ lea', X = some (V, lea') := ⟨_, rfl⟩
    have hq : Q (fX5_hear N row lea) := by
      unfold fX5_hear
      rw [hml, bnd2_some]
      by_cases hab2 : a = b
      · rw [if_pos hab2] at hV
        have h0 : msk a b = 0 := (msk_0 b (by omega) a (by omega)).mpr hab2
        rw [h0]
        refine whl4_Q Q (fun k x y z _ => z = -1) 0 ?_ N (by omega) _ _ _ _ rfl
        intro k hk x y z l hp rec hr
        subst hp
        rw [if00]
        refine orQ (fun _ => ?_) (fun _ => ?_)
        all_goals rw [hQ, hV]
        all_goals exact ⟨_, rfl⟩
      · rw [if_neg hab2] at hV
        have hne : ¬ msk a b = 0 := fun h => hab2 ((msk_0 b (by omega) a (by omega)).mp h)
        refine whl4_Q Q (fun c x y z _ => x = jI c ∧ ∃ l, y = lI 99 l ∧ (∀ u, l = some u → u ≤ 27) ∧ hGo g (24 - c) c (l, z) = V) 24 ?_ N (by omega) _ _ _ _ ⟨rfl, none, rfl, (fun u hu => by cases hu), hV⟩
        intro c hc x y z ll hp1 rec hr
        obtain ⟨rfl, l, rfl, hl, hgo⟩ := hp1
        by_cases hlt : c < 24
        · rw [if_neg (nle cj_24 hlt (by omega)), if_neg hne]
          refine whl3_Q Q (fun k x n _ => x = jI (4 + k) ∧ n = jI (cnT (p c) k)) 27 ?_ N (by omega) _ _ _ ⟨rfl, rfl⟩
          intro k hk x n ll hp1 rec2 hr2
          obtain ⟨rfl, rfl⟩ := hp1
          have hn := hcn c k
          by_cases hlt2 : k < 27
          · rw [if_neg (nle cj_31 (by omega) (by omega)), jI_4, m_has, bit_msk b (by omega) a (by omega) k (by omega), bnd1_some, jn_0]
            by_cases hin : a ≤ k ∧ k < b
            · obtain ⟨l2, hl2⟩ := m_by0 hN hW (jI (4 + k)) (jI c) (-1) ll
              rw [e7, ← hf] at hl2
              rw [if_pos hin, if_pos rfl, if10, hl2, bnd2_some]
              by_cases hz : f c k ≤ 0
              · rw [if_pos hz]
                refine hr2 hlt2 _ _ _ ⟨jI_1 _, ?_⟩
                simp only [cnT, hp, hin, hz, decide_true, Bool.not_true, Bool.and_false, Bool.false_eq_true, if_false, Nat.add_zero]
              · rw [if_neg hz]
                refine hr2 hlt2 _ _ _ ⟨jI_1 _, ?_⟩
                simp only [cnT, hp, hin, hz, decide_true, decide_false, Bool.not_false, Bool.and_true, if_true, and_self]
                exact jI_1 _
            · rw [if_neg hin, if_neg (show ¬ (0 : Int32) = 1 by decide), if00]
              refine hr2 hlt2 _ _ _ ⟨jI_1 _, ?_⟩
              simp only [cnT, hp, hin, decide_false, Bool.false_and, Bool.false_eq_true, if_false, Nat.add_zero]
          · have e27 : k = 27 := by omega
            subst e27
            rw [if_pos (ple cj_31 (by omega) (by omega)), m_bits_msk hN (by omega) (by omega), bnd1_some, jI_sub (by omega)]
            simp only [jn1_e, jn0_e, one_eq_zero, zero_eq_one, if_true, if_false]
            rw [ite3, ite3]
            have hgc := hg c
            by_cases hmx : cnT (p c) 27 ≤ b - a - cnT (p c) 27
            · rw [if_pos (by rw [jI_le (by omega) (by omega)]; exact hmx)]
              have hv : b - a - cnT (p c) 27 = g c := by omega
              rw [hv]
              refine least_m (F := 99) (Fn := 99) (B := 27) (K := fun a b => rec (jI c + (1 : Int32)) a b ll) rfl (by omega) (by omega) l z hl (hg27 c) ?_
              exact hr hlt _ _ _ _ ⟨jI_1 c, _, rfl, hNx_ok hl (hg27 c), hGo_s hlt hgo⟩
            · rw [if_neg (by rw [jI_le (by omega) (by omega)]; exact hmx)]
              have hv : cnT (p c) 27 = g c := by omega
              rw [hv]
              refine least_m (F := 99) (Fn := 99) (B := 27) (K := fun a b => rec (jI c + (1 : Int32)) a b ll) rfl (by omega) (by omega) l z hl (hg27 c) ?_
              exact hr hlt _ _ _ _ ⟨jI_1 c, _, rfl, hNx_ok hl (hg27 c), hGo_s hlt hgo⟩
        · rw [if_pos (ple cj_24 (by omega) (by omega)), hQ, ← hGo_e hlt hgo]
          exact ⟨_, rfl⟩
    rw [hQ] at hq; exact hq
  obtain ⟨lea', hm⟩ := hm
  exact ⟨_, _, hx, hm, H⟩
