/-! OWN KIT: methods that throw a Fault, and its catching -/
set_option maxRecDepth 100000
abbrev flt (q : Nat) (r : Int32) : Nat × va_E := (q, .inr (6, [.null, .null, .null, .null, .null, .int 0, .int r]))
abbrev qTi (g : GG) (tt r : Int32) (Wd W' : va_W) (sz : Nat) : Array Value → State → Outcome → State → Prop := va_Qi (fun (v : Int32) (_ : Unit) => tt = 0 ∧ v = r) (fun _ t => va_P g.1 vwCl W' t.heap ∧ va_D (va_A Wd sz) W') (va_A Wd sz)
abbrev qTv (g : GG) (tt : Int32) (Wd W' : va_W) (sz : Nat) : Array Value → State → Outcome → State → Prop := va_Qv (fun (_ : Unit) => tt = 0) (fun _ t => va_P g.1 vwCl W' t.heap ∧ va_D (va_A Wd sz) W') (va_A Wd sz)
abbrev xT (g : GG) (tt r : Int32) (Wd W' : va_W) (sz : Nat) : String → Addr → State → State → Prop := vy_X (fun (_ : Unit) => tt = 1) (fun E q _ t => E = RX6 ∧ va_P g.1 vwCl (W' ++ [flt q r]) t.heap ∧ va_D (va_A Wd sz) (W' ++ [flt q r])) (va_A Wd sz)
theorem P_left {D : va_G} {cl : List vw_C} {a b : va_W} {H : Heap} (h : va_P D cl (a ++ b) H) : va_P D cl a H := fun k q hk => h k q (by rw [List.getElem?_append_left (List.getElem?_eq_some_iff.mp hk).1]; exact hk)
theorem at_right {α : Type} {a b : List α} {k : Nat} {q : α} (hk : b[k]? = some q) : (a ++ b)[a.length + k]? = some q := by
  rw [List.getElem?_append_right (Nat.le_add_right _ _), Nat.add_sub_cancel_left]
  exact hk
theorem at_left {α : Type} {a b : List α} {k : Nat} {q : α} (hk : a[k]? = some q) : (a ++ b)[k]? = some q := by
  rw [List.getElem?_append_left (List.getElem?_eq_some_iff.mp hk).1]
  exact hk
theorem P_right {D : va_G} {cl : List vw_C} {a b : va_W} {H : Heap} (h : va_P D cl (a ++ b) H) : va_P D cl b H := fun k q hk => h _ q (at_right hk)
theorem D_left {A : Nat → Prop} {a b : va_W} (h : va_D A (a ++ b)) : va_D A a := ⟨fun i j p q hi hj e => h.1 i j p q (at_left hi) (at_left hj) e, fun k q hk => h.2 k q (at_left hk)⟩
theorem D_right {A : Nat → Prop} {a b : va_W} (h : va_D A (a ++ b)) : va_D A b := ⟨fun i j p q hi hj e => by
  have h1 := h.1 _ _ p q (at_right hi) (at_right hj) e
  omega, fun k q hk => h.2 _ q (at_right hk)⟩
theorem D_apart {A : Nat → Prop} {a b : va_W} (h : va_D A (a ++ b)) {i j : Nat} {p q : Nat × va_E} (hi : a[i]? = some p) (hj : b[j]? = some q) : p.1 ≠ q.1 := by
  intro e
  have h1 := h.1 _ _ p q (at_left hi) (at_right hj) e
  have h2 := (List.getElem?_eq_some_iff.mp hi).1
  omega
/-- the first part put in another order -/
theorem PD_perm {g : GG} {A : Nat → Prop} {a b w : va_W} {H : Heap} (hP : va_P g.1 vwCl (a ++ b) H) (hD : va_D A (a ++ b)) (perm : List Nat) (hp : ckN perm = true) (hw : perm.map (fun i => a[i]?) = w.map some) : va_P g.1 vwCl (w ++ b) H ∧ va_D A (w ++ b) := by
  refine ⟨((P_left hP).sub perm (ck_fm _ _ hw)).app (P_right hP), va_D.app ((D_left hD).sub perm (ckN_nd _ hp) hw) (D_right hD) ?_⟩
  intro i j p q hi hj
  have h1 : (perm.map (fun i => a[i]?))[i]? = some (some p) := by rw [hw, List.getElem?_map, hi]; rfl
  rw [List.getElem?_map] at h1
  cases hk : perm[i]? with
  | none => rw [hk] at h1; cases h1
  | some k =>
    rw [hk] at h1
    exact D_apart hD (Option.some.inj h1) hj
theorem flt_at {g : GG} {W' : va_W} {q : Nat} {r : Int32} {H : Heap} {s : State} (hK : va_K g.1 vwCl (gT g) s) (hP : va_P g.1 vwCl (W' ++ [flt q r]) H) : ∃ ce : Cell, H[q]? = some ce ∧ ce.vm = .none ∧ s.vm.findClass RX6 = some ce.cls := by
  obtain ⟨rr, h1, cell, h2, h3, h4, -⟩ := P_right hP 0 (flt q r) rfl
  exact ⟨cell, h2, h4, by rw [h3]; exact (hK.1 6 _ rfl).2.1⟩
theorem met_ti {l : Launch} {y : MethodName} {cc : ByteArray} {maxL : Nat} {rm : Room} {sz : Nat} {g : GG} {Wd W' : va_W} {tt r : Int32} {av : List Value} (hy : plainName y.cls = true) (hlen : (lg_sl av).length ≤ maxL)
    (body : ∀ (p : Program) (e : Env) (s : State) (m : MethodId) (args : Array Value) (below : List Frame) (meth : Method) (c : Code) (A : Nat → Prop) (Q : State → Prop), p.tables.exec = Jvm.exec → c.code = cc → c.maxLocals = maxL → s.vm.findClass y.cls = some m.cls → (∀ w ∈ lw_all, w.before args s = true) → CX g A s s.heap → (∀ q : Nat, s.heap.size ≤ q → A q) →
      (∀ (pc : Nat) (H : Heap) (locs : List Loc) (ls : Array Slot), decode cc pc = .ok (.ireturn, 1) → tt = 0 → va_P g.1 vwCl W' H → va_D A W' → va_S A s.heap H locs → W p l e rm s m args below meth c H locs 0 0 Q (F0 m pc ls [.int r])) →
      (∀ (pc : Nat) (H : Heap) (locs : List Loc) (ls : Array Slot) (rest : List Value) (q : Nat), tt = 1 → va_P g.1 vwCl (W' ++ [flt q r]) H → va_D A (W' ++ [flt q r]) → va_S A s.heap H locs → vy_W p l e rm s m args below meth c H locs 1 7 Q (F0 m pc ls rest) q) →
      ∀ (H : Heap) (locs : List Loc), va_P g.1 vwCl Wd H → va_D A Wd → va_S A s.heap H locs → ∀ ls : Array Slot, lv_has ls maxL (lv_args 0 av) → W p l e rm s m args below meth c H locs 0 0 Q (F0 m 0 ls [])) :
    vy_Met l y (ws_ y cc maxL (some .int)) rm (va_Pc av (cPw g Wd sz)) (qTi g tt r Wd W' sz) (xT g tt r Wd W' sz) 1 7 (va_A Wd sz) := by
  refine vy_ofW (cc := cc) (maxL := maxL) (ret := some .int) hy rfl ?_
  intro p e s m args below meth c s₁ B hml hexc hv
  obtain ⟨rfl, hsz, hP, hD0, hcx⟩ := hv
  have hts := atoms_spec (ws := ws_ y cc maxL (some .int)) B.pre
  subst hsz
  refine lv_enter hlen (fun ls hl => ?_)
  have hret := B.returns
  have hlocks := B.notSynchronized
  refine body p e s m _ below meth c (va_A Wd s.heap.size) _ B.exec B.bytes hml (findClass_of_methodNamed B.named) (fun w h => hts w (List.mem_cons_of_mem _ h)) hcx (fun q h => Or.inr h) ?_ ?_ _ _ hP hD0.self va_S.rf ls hl
  · intro pc H locs ls hdg h0 hP9 hD9 hS
    exact vy_ret (W.iret (v := r) B.exec B.bytes hret (fun t ht hW => ⟨⟨r, (), rfl, ⟨h0, rfl⟩, by rw [ht]; exact hP9, hD9⟩, hS.F ht⟩) hS.2.2 hdg hlocks)
  · intro pc H locs ls rest q h1 hP9 hD9 hS
    obtain ⟨ce, h2, h3, h4⟩ := flt_at hcx.K hP9
    exact vy_out (fun x hx => (hexc x hx).elim) hlocks h2 h3 h4 (fun t ht _ => ⟨(), h1, ⟨rfl, by rw [ht]; exact hP9, hD9⟩, hS.F ht⟩) hS.2.2 (Nat.le_refl _) (Nat.le_refl _)
theorem met_tv {l : Launch} {y : MethodName} {cc : ByteArray} {maxL : Nat} {rm : Room} {sz : Nat} {g : GG} {Wd W' : va_W} {tt r : Int32} {av : List Value} (hy : plainName y.cls = true) (hlen : (lg_sl av).length ≤ maxL)
    (body : ∀ (p : Program) (e : Env) (s : State) (m : MethodId) (args : Array Value) (below : List Frame) (meth : Method) (c : Code) (A : Nat → Prop) (Q : State → Prop), p.tables.exec = Jvm.exec → c.code = cc → c.maxLocals = maxL → s.vm.findClass y.cls = some m.cls → (∀ w ∈ lw_all, w.before args s = true) → CX g A s s.heap → (∀ q : Nat, s.heap.size ≤ q → A q) →
      (∀ (pc : Nat) (H : Heap) (locs : List Loc) (ls : Array Slot), decode cc pc = .ok (.return_, 1) → tt = 0 → va_P g.1 vwCl W' H → va_D A W' → va_S A s.heap H locs → W p l e rm s m args below meth c H locs 0 0 Q (F0 m pc ls [])) →
      (∀ (pc : Nat) (H : Heap) (locs : List Loc) (ls : Array Slot) (rest : List Value) (q : Nat), tt = 1 → va_P g.1 vwCl (W' ++ [flt q r]) H → va_D A (W' ++ [flt q r]) → va_S A s.heap H locs → vy_W p l e rm s m args below meth c H locs 1 7 Q (F0 m pc ls rest) q) →
      ∀ (H : Heap) (locs : List Loc), va_P g.1 vwCl Wd H → va_D A Wd → va_S A s.heap H locs → ∀ ls : Array Slot, lv_has ls maxL (lv_args 0 av) → W p l e rm s m args below meth c H locs 0 0 Q (F0 m 0 ls [])) :
    vy_Met l y (ws_ y cc maxL none) rm (va_Pc av (cPw g Wd sz)) (qTv g tt Wd W' sz) (xT g tt r Wd W' sz) 1 7 (va_A Wd sz) := by
  refine vy_ofW (cc := cc) (maxL := maxL) (ret := none) hy rfl ?_
  intro p e s m args below meth c s₁ B hml hexc hv
  obtain ⟨rfl, hsz, hP, hD0, hcx⟩ := hv
  have hts := atoms_spec (ws := ws_ y cc maxL none) B.pre
  subst hsz
  refine lv_enter hlen (fun ls hl => ?_)
  have hret := B.returns
  have hlocks := B.notSynchronized
  refine body p e s m _ below meth c (va_A Wd s.heap.size) _ B.exec B.bytes hml (findClass_of_methodNamed B.named) (fun w h => hts w (List.mem_cons_of_mem _ h)) hcx (fun q h => Or.inr h) ?_ ?_ _ _ hP hD0.self va_S.rf ls hl
  · intro pc H locs ls hdg h0 hP9 hD9 hS
    exact vy_ret (W.vret B.exec B.bytes hret (fun t ht hW => ⟨⟨(), rfl, h0, by rw [ht]; exact hP9, hD9⟩, hS.F ht⟩) hS.2.2 hdg hlocks)
  · intro pc H locs ls rest q h1 hP9 hD9 hS
    obtain ⟨ce, h2, h3, h4⟩ := flt_at hcx.K hP9
    exact vy_out (fun x hx => (hexc x hx).elim) hlocks h2 h3 h4 (fun t ht _ => ⟨(), h1, ⟨rfl, by rw [ht]; exact hP9, hD9⟩, hS.F ht⟩) hS.2.2 (Nat.le_refl _) (Nat.le_refl _)
section KROWS3
variable {p : Program} {l : Launch} {e : Env} {R : Room} {s : State} {m : MethodId} {args : Array Value} {below : List Frame} {meth : Method} {c : Code} {H : Heap} {locs : List Loc} {cells slots : Nat} {Q : State → Prop}
variable {pc : Nat} {ls : Array Slot} {rest st0 : List Value} {g : GG} {A : Nat → Prop} {Wd Wc Wc' : va_W} {mc ms : Nat} {a : Array Value} {free : Addr → Prop}
theorem kx_i {tt r : Int32} {Wn : va_W} (hr : vy_Run p l e R s m args below meth c H locs cells slots mc ms (F0 m pc ls st0) rest (qTi g tt r Wc Wc' H.size a) (xT g tt r Wc Wc' H.size) free) (hS : va_S A s.heap H locs) (hP : va_P g.1 vwCl Wd H) (hD : va_D A Wd) (isC isR perm : List Nat) (hC : isC.map (fun i => Wd[i]?) = Wc.map some) (hR : isR.all (fun i => Nat.blt i Wd.length) = true) (hn : (ckN isR && ckD isC isR) = true) (hp : ckN perm = true) (hF : ∀ q, va_A Wc H.size q → A q) (hf : ∀ q, free q → A q) (hw : perm.map (fun i => (isR.filterMap (fun i => Wd[i]?) ++ Wc')[i]?) = Wn.map some)
    (kx : tt = 1 → ∀ (q : Nat) (H1 : Heap) (locs1 : List Loc), va_P g.1 vwCl (Wn ++ [flt q r]) H1 → va_D A (Wn ++ [flt q r]) → va_S A s.heap H1 locs1 → vy_W p l e R s m args below meth c H1 locs1 (cells + mc) (slots + ms) Q (F0 m pc ls rest) q)
    (kk : tt = 0 → ∀ (H1 : Heap) (locs1 : List Loc), va_P g.1 vwCl Wn H1 → va_D A Wn → va_S A s.heap H1 locs1 → W p l e R s m args below meth c H1 locs1 cells slots Q (F0 m (pc + 3) ls (.int r :: rest))) : W p l e R s m args below meth c H locs cells slots Q (F0 m pc ls st0) := by
  refine vy_calli hr hS (fun q _ h => hF q h) hf (fun q _ h => hF q h) (fun E ce q9 u t H1 locs1 ht hvm hpx hB hz hk hS1 hce hcv hcl => ?_) (fun v u t H1 locs1 ht hvm hpost hB hz hk hS1 => ?_)
  · obtain ⟨rfl, hP1, hD1⟩ := hB
    rw [ht] at hP1
    simp only [Bool.and_eq_true] at hn
    obtain ⟨hP2, hD2⟩ := va_join hP hD isC isR hC (ckR_map isR hR) (ckN_nd _ hn.1) (ckD_dis hn.2) hk hF hP1 hD1
    rw [← List.append_assoc] at hP2 hD2
    obtain ⟨hP3, hD3⟩ := PD_perm hP2 hD2 perm hp hw
    exact kx hpx q9 H1 locs1 hP3 hD3 hS1
  · obtain ⟨hP1, hD1⟩ := hB
    rw [ht] at hP1
    obtain ⟨h0, rfl⟩ := hpost
    obtain ⟨hP2, hD2⟩ := kc_join hP hD isC isR perm hC hR hn hp hk hF hP1 hD1 hw
    exact kk h0 H1 locs1 hP2 hD2 hS1
theorem kx_v {tt r : Int32} {Wn : va_W} (hr : vy_Run p l e R s m args below meth c H locs cells slots mc ms (F0 m pc ls st0) rest (qTv g tt Wc Wc' H.size a) (xT g tt r Wc Wc' H.size) free) (hS : va_S A s.heap H locs) (hP : va_P g.1 vwCl Wd H) (hD : va_D A Wd) (isC isR perm : List Nat) (hC : isC.map (fun i => Wd[i]?) = Wc.map some) (hR : isR.all (fun i => Nat.blt i Wd.length) = true) (hn : (ckN isR && ckD isC isR) = true) (hp : ckN perm = true) (hF : ∀ q, va_A Wc H.size q → A q) (hf : ∀ q, free q → A q) (hw : perm.map (fun i => (isR.filterMap (fun i => Wd[i]?) ++ Wc')[i]?) = Wn.map some)
    (kx : tt = 1 → ∀ (q : Nat) (H1 : Heap) (locs1 : List Loc), va_P g.1 vwCl (Wn ++ [flt q r]) H1 → va_D A (Wn ++ [flt q r]) → va_S A s.heap H1 locs1 → vy_W p l e R s m args below meth c H1 locs1 (cells + mc) (slots + ms) Q (F0 m pc ls rest) q)
    (kk : tt = 0 → ∀ (H1 : Heap) (locs1 : List Loc), va_P g.1 vwCl Wn H1 → va_D A Wn → va_S A s.heap H1 locs1 → W p l e R s m args below meth c H1 locs1 cells slots Q (F0 m (pc + 3) ls rest)) : W p l e R s m args below meth c H locs cells slots Q (F0 m pc ls st0) := by
  refine vy_callv hr hS (fun q _ h => hF q h) hf (fun q _ h => hF q h) (fun E ce q9 u t H1 locs1 ht hvm hpx hB hz hk hS1 hce hcv hcl => ?_) (fun u t H1 locs1 ht hvm hpost hB hz hk hS1 => ?_)
  · obtain ⟨rfl, hP1, hD1⟩ := hB
    rw [ht] at hP1
    simp only [Bool.and_eq_true] at hn
    obtain ⟨hP2, hD2⟩ := va_join hP hD isC isR hC (ckR_map isR hR) (ckN_nd _ hn.1) (ckD_dis hn.2) hk hF hP1 hD1
    rw [← List.append_assoc] at hP2 hD2
    obtain ⟨hP3, hD3⟩ := PD_perm hP2 hD2 perm hp hw
    exact kx hpx q9 H1 locs1 hP3 hD3 hS1
  · obtain ⟨hP1, hD1⟩ := hB
    rw [ht] at hP1
    obtain ⟨hP2, hD2⟩ := kc_join hP hD isC isR perm hC hR hn hp hk hF hP1 hD1 hw
    exact kk hpost H1 locs1 hP2 hD2 hS1
theorem caught (hown : s.vm.findClass "LaneCymbals" = some m.cls) (htab : c.exceptionTable.toList = tableOf [(0, 20, 21, 140)]) (hts : ∀ w ∈ lw_all, w.before args s = true) (hcx : CX g A s s.heap) (hP : va_P g.1 vwCl Wd H) (i : Nat) {q : Nat} {fs : List Value} (he : Wd[i]? = some (q, .inr (6, fs))) (hpc : covers (⟨0, 20, 21, 140⟩ : ExceptionTableEntry) pc = true) (kk : W p l e R s m args below meth c H locs cells slots Q (F0 m 21 ls [.ref q])) : vy_W p l e R s m args below meth c H locs cells slots Q (F0 m pc ls rest) q := by
  obtain ⟨rr, h1, cell, h2, h3, h4, -⟩ := hP i _ he
  exact vy_catch (E := "LaneCymbals$Fault") hown [] ⟨0, 20, 21, 140⟩ [] htab (fun z hz => by cases hz) hpc (by decide) (hts _ q363) hcx.cast h2 h4 (by rw [h3]; exact (hcx.K.1 6 _ rfl).2.1) kk
end KROWS3
theorem met_wiH {l : Launch} {y : MethodName} {cc : ByteArray} {maxL : Nat} {ret : FieldType} {rm : Room} {hh : List (Nat × Nat × Nat × Nat)} {mc ms sz : Nat} {g : GG} {Wd W' : va_W} {r : Int32} {av : List Value} (hy : plainName y.cls = true) (hlen : (lg_sl av).length ≤ maxL)
    (body : ∀ (p : Program) (e : Env) (s : State) (m : MethodId) (args : Array Value) (below : List Frame) (meth : Method) (c : Code) (A : Nat → Prop) (Q : State → Prop), p.tables.exec = Jvm.exec → c.code = cc → c.maxLocals = maxL → s.vm.findClass y.cls = some m.cls → (∀ w ∈ lw_all, w.before args s = true) → CX g A s s.heap → (∀ q : Nat, s.heap.size ≤ q → A q) →
      (∀ (pc : Nat) (H : Heap) (locs : List Loc) (ls : Array Slot), decode cc pc = .ok (.ireturn, 1) → (ret = .int ∨ narrow ret (.int r) = .int r) → va_P g.1 vwCl W' H → va_D A W' → va_S A s.heap H locs → W p l e rm s m args below meth c H locs mc ms Q (F0 m pc ls [.int r])) →
      c.exceptionTable.toList = tableOf hh → ∀ (H : Heap) (locs : List Loc), va_P g.1 vwCl Wd H → va_D A Wd → va_S A s.heap H locs → ∀ ls : Array Slot, lv_has ls maxL (lv_args 0 av) → W p l e rm s m args below meth c H locs 0 0 Q (F0 m 0 ls [])) :
    Met l y (wsW_ y cc maxL (some ret) hh) rm (va_Pc av (cPw g Wd sz)) (qI g r Wd W' sz) mc ms (va_A Wd sz) := by
  refine va_MetW (hh := hh) (cc := cc) (maxL := maxL) (ret := some ret) hy rfl ?_
  intro p e s m args below meth c s₁ B hml hv
  obtain ⟨rfl, hsz, hP, hD0, hcx⟩ := hv
  have hts := atoms_spec (ws := wsW_ y cc maxL (some ret) hh) B.pre
  subst hsz
  refine lv_enter hlen (fun ls hl => ?_)
  have hret := B.returns
  have hlocks := B.notSynchronized
  refine body p e s m _ below meth c (va_A Wd s.heap.size) _ B.exec B.bytes hml (findClass_of_methodNamed B.named) (fun w h => hts w (List.mem_cons_of_mem _ h)) hcx (fun q h => Or.inr h) ?_ (vy_table (x := y) B (hts _ List.mem_cons_self)) _ _ hP hD0.self va_S.rf ls hl
  intro pc H locs ls hdg hn hP9 hD9 hS
  rcases hn with hi | hn
  · subst hi
    exact W.iret (v := r) B.exec B.bytes hret (fun t ht hW => ⟨⟨r, (), rfl, rfl, by rw [ht]; exact hP9, hD9⟩, hS.F ht⟩) hS.2.2 hdg hlocks
  · exact W.zret (v := r) B.exec B.bytes hret hn (fun t ht hW => ⟨⟨r, (), rfl, rfl, by rw [ht]; exact hP9, hD9⟩, hS.F ht⟩) hS.2.2 hdg hlocks
