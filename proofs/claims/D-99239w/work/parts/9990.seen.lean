set_option maxRecDepth 100000
/-! ===== rows that look as seen, in any order ===== -/
noncomputable def sc_st (l : List (List Nat)) : Nat → Nat
  | 0 => 0
  | k + 1 => sc_st l k ||| (if 0 < lk_cr l k then 2 ^ k else 0)
theorem sc_st_bit (l : List (List Nat)) (k j : Nat) : (sc_st l k).testBit j = (decide (j < k) && decide (lk_cr l j ≠ 0)) := by
  induction k with
  | zero => show Nat.testBit 0 j = _; rw [Nat.zero_testBit]; simp
  | succ k ih =>
    show (sc_st l k ||| _).testBit j = _
    rw [Nat.testBit_or, ih]
    by_cases e : j = k
    · subst e
      by_cases z : 0 < lk_cr l j
      · rw [if_pos z, Nat.testBit_two_pow_self]
        simp
        omega
      · rw [if_neg z, Nat.zero_testBit]
        simp
        omega
    · have h1 : (if 0 < lk_cr l k then 2 ^ k else 0).testBit j = false := by
        split
        · exact Nat.testBit_two_pow_of_ne (Ne.symm e)
        · exact Nat.zero_testBit _
      rw [h1, Bool.or_false]
      congr 1
      rw [decide_eq_decide]
      omega
theorem sc_st_lt (l : List (List Nat)) (k : Nat) : sc_st l k < 2 ^ k := by
  induction k with
  | zero => exact Nat.one_pos
  | succ k ih =>
    show sc_st l k ||| _ < 2 ^ (k + 1)
    refine Nat.or_lt_two_pow (Nat.lt_trans ih (Nat.pow_lt_pow_right (by decide) (by omega))) ?_
    split
    · exact Nat.pow_lt_pow_right (by decide) (by omega)
    · exact Nat.two_pow_pos _
noncomputable def sn_n (l : List (List Nat)) (m : Nat) : Nat → Nat
  | 0 => m
  | k + 1 => if lk_cr l k = 0 then sn_n l m k &&& (63 - 2 ^ k) else sn_n l m k
theorem clr_bit {m k : Nat} (hm : m < 64) (hk : k < 6) : nI m &&& ((nI 1 <<< (nI k &&& 31)) ^^^ (-1)) = nI (m &&& (63 - 2 ^ k)) := by
  have : (List.range 64).all (fun m => (List.range 6).all (fun k => decide (nI m &&& ((nI 1 <<< (nI k &&& 31)) ^^^ (-1)) = nI (m &&& (63 - 2 ^ k))))) = true := by decide +kernel
  exact of_decide_eq_true (List.all_eq_true.mp (List.all_eq_true.mp this m (List.mem_range.mpr hm)) k (List.mem_range.mpr hk))
theorem sn_n_lt {l : List (List Nat)} {m : Nat} (hm : m < 64) (k : Nat) : sn_n l m k < 64 := by
  induction k with
  | zero => exact hm
  | succ k ih =>
    show (if lk_cr l k = 0 then sn_n l m k &&& (63 - 2 ^ k) else sn_n l m k) < 64
    split
    · exact Nat.lt_of_le_of_lt Nat.and_le_left ih
    · exact ih
theorem sn_sure_n {l : List (List Nat)} {m : Nat} (hm : m < 64) : ∀ k, k ≤ 6 → sn_sure l (nI m) k = nI (sn_n l m k) := by
  intro k
  induction k with
  | zero => intro _; rfl
  | succ k ih =>
    intro hk
    show (if lk_cr l k = 0 then sn_sure l (nI m) k &&& ((nI 1 <<< (nI k &&& 31)) ^^^ (-1)) else sn_sure l (nI m) k) = nI (if lk_cr l k = 0 then sn_n l m k &&& (63 - 2 ^ k) else sn_n l m k)
    rw [ih (by omega)]
    split
    · exact clr_bit (sn_n_lt hm k) (by omega)
    · rfl
theorem sn_n_bit {l : List (List Nat)} {m : Nat} (hm : m < 64) : ∀ k, k ≤ 6 → ∀ j, j < 6 → (sn_n l m k).testBit j = (m.testBit j && !(decide (j < k) && decide (lk_cr l j = 0))) := by
  have hb : ∀ k, k < 6 → ∀ j, j < 6 → (63 - 2 ^ k).testBit j = decide (j ≠ k) := by decide
  intro k
  induction k with
  | zero => intro _ j _; show m.testBit j = _; simp
  | succ k ih =>
    intro hk j hj
    show (if lk_cr l k = 0 then sn_n l m k &&& (63 - 2 ^ k) else sn_n l m k).testBit j = _
    by_cases z : lk_cr l k = 0
    · rw [if_pos z, Nat.testBit_and, ih (by omega) j hj, hb k (by omega) j hj]
      by_cases e : j = k
      · subst e; simp [z]
      · have e1 : decide (j < k + 1) = decide (j < k) := by rw [decide_eq_decide]; omega
        rw [e1, decide_eq_true e, Bool.and_true]
    · rw [if_neg z, ih (by omega) j hj]
      by_cases e : j = k
      · subst e; simp [z]
      · have e1 : decide (j < k + 1) = decide (j < k) := by rw [decide_eq_decide]; omega
        rw [e1]
theorem sn_n_and {l : List (List Nat)} {m k : Nat} (hk : k ≤ 5) (hm : m < 2 ^ k) : sn_n l m k = m &&& sc_st l k := by
  have h64 : m < 64 := Nat.lt_of_lt_of_le hm (Nat.pow_le_pow_right (by decide) (show k ≤ 6 by omega))
  refine Nat.eq_of_testBit_eq (fun j => ?_)
  rw [Nat.testBit_and, sc_st_bit]
  by_cases hj : j < 6
  · rw [sn_n_bit h64 k (by omega) j hj]
    by_cases z : j < k
    · rw [decide_eq_true z]
      by_cases z2 : lk_cr l j = 0
      · simp [z2]
      · simp [z2]
    · rw [Nat.testBit_lt_two_pow (Nat.lt_of_lt_of_le hm (Nat.pow_le_pow_right (by decide) (by omega)))]; rfl
  · have h6 : 2 ^ 6 ≤ 2 ^ j := Nat.pow_le_pow_right (by decide) (by omega)
    rw [Nat.testBit_lt_two_pow (Nat.lt_of_lt_of_le (sn_n_lt h64 k) h6), Nat.testBit_lt_two_pow (Nat.lt_of_lt_of_le h64 h6)]; rfl
theorem sn_bh_add (fr bk : Nat → Int32) (l : List (List Nat)) (f : Nat → Int32) : ∀ k i, sn_bh fr bk l f k i = f i + sn_bh fr bk l (fun _ => 0) k i := by
  intro k
  induction k with
  | zero => intro i; show f i = f i + 0; rw [Int32.add_zero]
  | succ k ih =>
    intro i
    unfold sn_bh
    generalize 100 * k + (lk_mk fr bk (lk_bot (l.getD k []))).toNatClampNeg = j
    by_cases e : i = j
    · subst e; rw [upd_s, upd_s, ih, Int32.add_assoc]
    · rw [upd_n e, upd_n e, ih]
theorem sn_bh_comm (fr bk : Nat → Int32) (l l2 : List (List Nat)) (f : Nat → Int32) (k k2 : Nat) : sn_bh fr bk l2 (sn_bh fr bk l f k) k2 = sn_bh fr bk l (sn_bh fr bk l2 f k2) k := by
  funext i
  rw [sn_bh_add fr bk l2 (sn_bh fr bk l f k) k2 i, sn_bh_add fr bk l (sn_bh fr bk l2 f k2) k i, sn_bh_add fr bk l f k i, sn_bh_add fr bk l2 f k2 i, Int32.add_assoc, Int32.add_assoc, Int32.add_comm (sn_bh fr bk l (fun _ => 0) k i)]
abbrev sn_T : Type := Nat × Nat × (Nat → Int32)
noncomputable def sn_C (fr bk : Nat → Int32) (n : Nat) (v : List Int64) (s : sn_T) (x : lv_E) : sn_T := if lk_reads fr bk x.2 v = true then (s.1 + 1, s.2.1 &&& sc_st x.2 (n - 1), sn_bh fr bk x.2 s.2.2 x.2.length) else s
theorem sn_C_comm (fr bk : Nat → Int32) (n : Nat) (v : List Int64) (s : sn_T) (x y : lv_E) : sn_C fr bk n v (sn_C fr bk n v s x) y = sn_C fr bk n v (sn_C fr bk n v s y) x := by
  unfold sn_C
  by_cases h1 : lk_reads fr bk x.2 v = true
  · by_cases h2 : lk_reads fr bk y.2 v = true
    · rw [if_pos h1, if_pos h2, if_pos h2, if_pos h1]
      show (s.1 + 1 + 1, (s.2.1 &&& sc_st x.2 (n - 1)) &&& sc_st y.2 (n - 1), _) = (s.1 + 1 + 1, (s.2.1 &&& sc_st y.2 (n - 1)) &&& sc_st x.2 (n - 1), _)
      rw [Nat.and_assoc, Nat.and_assoc, Nat.and_comm (sc_st x.2 (n - 1))]
      show (_, _, sn_bh fr bk y.2 (sn_bh fr bk x.2 s.2.2 x.2.length) y.2.length) = (_, _, sn_bh fr bk x.2 (sn_bh fr bk y.2 s.2.2 y.2.length) x.2.length)
      rw [sn_bh_comm]
    · rw [if_pos h1, if_neg h2, if_neg h2, if_pos h1]
  · by_cases h2 : lk_reads fr bk y.2 v = true
    · rw [if_neg h1, if_pos h2, if_neg h1]
    · rw [if_neg h1, if_neg h2, if_neg h1]
theorem sn_all_eq : ∀ n, n ≤ 6 → sn_all n = nI (2 ^ (n - 1) - 1) := by decide
/-- the class's row against the reference's -/
def sn_RR (n : Nat) (s : sn_T) (t : Nat × Int32 × (Nat → Int32)) : Prop := s.1 = t.1 ∧ s.2.2 = t.2.2 ∧ ((s.1 = 0 ∧ s.2.1 = 63 ∧ t.2.1 = sn_all n) ∨ (s.1 ≠ 0 ∧ s.2.1 < 2 ^ (n - 1) ∧ t.2.1 = nI s.2.1))
theorem sn_rel {fr bk : Nat → Int32} {n : Nat} {v : List Int64} (hn : n ≤ 6) : ∀ (xs : List lv_E) (s : sn_T) (t : Nat × Int32 × (Nat → Int32)), sn_RR n s t → sn_RR n (xs.foldl (sn_C fr bk n v) s) (lv_go (se_sn fr bk n v) t xs).1 := by
  intro xs
  induction xs with
  | nil => intro s t h; exact h
  | cons x xs ih =>
    intro s t h
    have e2 : (se_sn fr bk n v t x).2 = false := by unfold se_sn; split <;> rfl
    rw [List.foldl_cons]
    unfold lv_go
    rw [if_neg (by rw [e2]; decide)]
    refine ih _ _ ?_
    obtain ⟨h1, h2, h3⟩ := h
    unfold sn_C se_sn
    by_cases q : lk_reads fr bk x.2 v = true
    · rw [if_pos q, if_pos q]
      have hp : 2 ^ (n - 1) ≤ 2 ^ 5 := Nat.pow_le_pow_right (by decide) (by omega)
      have hlt := sc_st_lt x.2 (n - 1)
      refine ⟨by show s.1 + 1 = t.1 + 1; rw [h1], by show sn_bh _ _ _ _ _ = sn_bh _ _ _ _ _; rw [h2], Or.inr ⟨by show s.1 + 1 ≠ 0; omega, Nat.lt_of_le_of_lt Nat.and_le_right hlt, ?_⟩⟩
      show sn_sure x.2 t.2.1 (n - 1) = nI (s.2.1 &&& sc_st x.2 (n - 1))
      rcases h3 with ⟨-, z2, z3⟩ | ⟨-, z2, z3⟩
      · have hpos : 0 < 2 ^ (n - 1) := Nat.two_pow_pos _
        rw [z3, sn_all_eq n hn, sn_sure_n (by omega) _ (by omega), sn_n_and (by omega) (by omega), z2, Nat.and_comm, Nat.and_two_pow_sub_one_eq_mod, Nat.mod_eq_of_lt hlt, Nat.and_comm 63, show (63 : Nat) = 2 ^ 6 - 1 from rfl, Nat.and_two_pow_sub_one_eq_mod, Nat.mod_eq_of_lt (by omega)]
      · rw [z3, sn_sure_n (by omega) _ (by omega), sn_n_and (by omega) z2]
    · rw [if_neg q, if_neg q]; exact ⟨h1, h2, h3⟩
theorem sn_df {fr bk : Nat → Int32} {n m : Nat} {v : List Int64} (hn : n ≤ 6) (l : List (List Nat)) : sn_RR n ((df m [] l).foldl (sn_C fr bk n v) (0, 63, fun _ => nI 0)) (lv_go (se_sn fr bk n v) (0, sn_all n, fun _ => nI 0) (lv_all m l)).1 := by
  rw [List.Perm.foldl_eq' (df_perm m l) (fun x _ y _ z => sn_C_comm fr bk n v z x y)]
  exact sn_rel hn _ _ _ ⟨rfl, rfl, Or.inl ⟨rfl, rfl, rfl⟩⟩
theorem sn_C_lt {fr bk : Nat → Int32} {n : Nat} {v : List Int64} {s : sn_T} (x : lv_E) (h : s.2.1 < 64) : (sn_C fr bk n v s x).2.1 < 64 := by
  unfold sn_C
  split
  · exact Nat.lt_of_le_of_lt Nat.and_le_left h
  · exact h
/-- how it lies: Seen at b, its row, its counts -/
def sn_O (b rb ob t : Nat) (s : sn_T) (h : nd_H) : Prop := h[b]? = some (.inr (nX39, [.ref rb, .ref 0, .ref (96 + t), .ref ob, .int (nI s.1), .int (nI s.2.1), .ref 0])) ∧ (∃ f, h[rb]? = some (.inl (0, 5, .inl f))) ∧ h[ob]? = some (.inl (5, 6, .inr (.inr (fun j => .ref (ob + 1 + j))))) ∧ s.2.1 < 64 ∧ (∀ j, j < 6 → ∃ f, h[ob + 1 + j]? = some (.inl (0, 100, .inl f)) ∧ ∀ i, i < 100 → f i = s.2.2 (100 * j + i)) ∧ ∀ i, i < 600 → ∃ c, c ≤ s.1 ∧ s.2.2 i = nI c
section SN90
variable {g : nd_G} {d : Nat} {K : nd_K} {h h0 : nd_H} {o : Nat → Nat} {nap : Nat} {ds : List Nat} {gi : Nat → Value} {dss : Nat → List Nat} {S : sy_S}
theorem ni_rowsX39 (hg : nd_OK g) {b : Nat} {x0 x1 x2 x3 x4 x5 x6 : Value} (hb : h[b]? = some (.inr (nX39, [x0, x1, x2, x3, x4, x5, x6]))) (hk : K (.inl none) ((h.set b (.inr (nX39, [.ref h.length, .ref 0, x2, x3, x4, x5, x6]))) ++ [.inl (0, 5, .inl (fun _ => 0))])) : nd_M g mX20_init d 1 5 [.ref b, .ref 0] h K := by
  have hlt := nd_get_lt hb
  refine nd_enter hg (by decide) rfl (Nat.le_of_ble_eq_true rfl) (fun X hC => ?_)
  refine nd_aload_n hC dX20_init_0 rfl rfl ?_
  refine nd_aload_n hC dX20_init_1 rfl rfl ?_
  refine nd_putF (ci := nX39) hC in_X39 rfl hb 1 (by decide) tyX39 tyX39_ok (by decide +kernel) q786 (fun _ z => z) rfl rfl rfl rfl rfl (by show 1 < 7; decide) dX20_init_2 ?_
  refine nd_aload_n hC dX20_init_5 rfl rfl ?_
  refine nd_objInit hC q773 q225 q226 (by exact Nat.le_of_ble_eq_true rfl) dX20_init_6 ?_
  refine nd_aload_n hC dX20_init_9 rfl rfl ?_
  refine nd_iconst hC (v := nI 5) (by rfl) dX20_init_10 ?_
  refine nd_newarray hC (atype := .int) (ty := 0) .int (.inl (fun _ => 0)) q322 rfl rfl (fun _ _ => rfl) (N := 5) rfl (by decide) (by decide) (by omega) (by omega) dX20_init_11 ?_
  have hb2 := l_get_app (h := h) (b := b) (A := .inr (nX39, [x0, .ref 0, x2, x3, x4, x5, x6])) (c := .inl (0, 5, .inl (fun _ => 0))) hlt
  refine nd_putF (ci := nX39) hC in_X39 rfl hb2 0 (by decide) tyX39 tyX39_ok (by decide +kernel) q783 (fun _ z => z) rfl rfl rfl rfl rfl (by show 0 < 7; decide) dX20_init_13 ?_
  rw [List.length_set]
  have R9 := hk
  rw [← l_set_app (A := .inr (nX39, [x0, .ref 0, x2, x3, x4, x5, x6])) hlt] at R9
  refine nd_return hC rfl (by omega) (by omega) dX20_init_16 (R9)
theorem ni_X39 (hg : nd_OK g) (hd : 1 ≤ d) {b t : Nat} {x0 x1 x2 x3 x4 x5 x6 : Value} (hb : h[b]? = some (.inr (nX39, [x0, x1, x2, x3, x4, x5, x6]))) (hz : x4 = .int 0) (hk : ∀ h2, h2.length = h.length + 8 → (∀ a, a < h.length → a ≠ b → h2[a]? = h[a]?) → sn_O b h.length (h.length + 1) t (0, 63, fun _ => nI 0) h2 → K (.inl none) h2) : nd_M g mX39_init d 8 611 [.ref b, .ref 0, .ref (96 + t)] h K := by
  subst hz
  have hlt := nd_get_lt hb
  refine nd_enter hg (by decide) rfl (Nat.le_of_ble_eq_true rfl) (fun X hC => ?_)
  refine nd_aload_n hC dX39_init_0 rfl rfl ?_
  refine nd_aload_n hC dX39_init_1 rfl rfl ?_
  refine nd_putF (ci := nX39) hC in_X39 rfl hb 6 (by decide) tyX39 tyX39_ok (by decide +kernel) q2513 (fun _ z => z) rfl rfl rfl rfl rfl (by show 6 < 7; decide) dX39_init_2 ?_
  refine nd_aload_n hC dX39_init_5 rfl rfl ?_
  refine nd_aload_n hC dX39_init_6 rfl rfl ?_
  refine nd_callIN (mm2 := mX20_init) (As := [_]) (mc2 := 1) (ms2 := 5) (d2 := d - 1) hC rfl rfl q772 q190 q2503 q771 rfl lmX20_init (Nat.le_of_ble_eq_true rfl) (by omega) rfl (by exact Nat.le_of_ble_eq_true rfl) (by omega) (by omega) dX39_init_7 rfl ((ni_rowsX39 hg (List.getElem?_set_self hlt) ?_))
  rw [List.length_set, List.set_set]
  refine nd_aload_n hC dX39_init_10 rfl rfl ?_
  refine nd_bipush hC (v := nI 6) (by rfl) dX39_init_11 ?_
  refine nd_bipush hC (v := nI 100) (by rfl) dX39_init_13 ?_
  refine nd_multi hC q2504 (by omega) (by omega) dX39_init_15 (by omega) (by omega) ?_
  generalize hcells : (.inl (5, 6, .inr (.inr (fun j => .ref ((h.set b (.inr (nX39, [.ref h.length, .ref 0, x2, x3, .int 0, x5, .ref 0])) ++ [(.inl (0, 5, .inl (fun _ => 0)) : nd_C)]).length + 1 + j)))) :: List.replicate 6 (.inl (0, 100, .inl (fun _ => 0))) : List nd_C) = cells
  have el : (h.set b (.inr (nX39, [.ref h.length, .ref 0, x2, x3, .int 0, x5, .ref 0])) ++ [(.inl (0, 5, .inl (fun _ => 0)) : nd_C)]).length = h.length + 1 := by rw [List.length_append, List.length_set]; rfl
  rw [el] at hcells
  rw [el]
  have cl : cells.length = 7 := by rw [← hcells]; rfl
  have base : ∀ x : nd_C, ((h.set b x ++ [(.inl (0, 5, .inl (fun _ => 0)) : nd_C)]) ++ cells)[b]? = some x := fun x => by
    rw [List.append_assoc, List.getElem?_append_left (by rw [List.length_set]; exact hlt), List.getElem?_set_self hlt]
  have upx : ∀ x y : nd_C, ((h.set b x ++ [(.inl (0, 5, .inl (fun _ => 0)) : nd_C)]) ++ cells).set b y = (h.set b y ++ [(.inl (0, 5, .inl (fun _ => 0)) : nd_C)]) ++ cells := fun x y => by
    rw [List.append_assoc, List.set_append_left _ _ (by rw [List.length_set]; exact hlt), List.set_set, List.append_assoc]
  refine nd_putF (ci := nX39) hC in_X39 rfl (base _) 3 (by decide) tyX39 tyX39_ok (by decide +kernel) q2507 (fun _ z => z) rfl rfl rfl rfl rfl (by show 3 < 7; decide) dX39_init_19 ?_
  rw [upx]
  refine nd_aload_n hC dX39_init_22 rfl rfl ?_
  refine nd_aload_n hC dX39_init_23 rfl rfl ?_
  refine nd_putF (ci := nX39) hC in_X39 rfl (base _) 2 (by decide) tyX39 tyX39_ok (by decide +kernel) q2505 (fun _ z => z) rfl rfl rfl rfl rfl (by show 2 < 7; decide) dX39_init_24 ?_
  rw [upx]
  refine nd_aload_n hC dX39_init_27 rfl rfl ?_
  refine nd_bipush hC (v := nI 63) (by rfl) dX39_init_28 ?_
  refine nd_put (ci := nX39) hC in_X39 rfl (base _) 5 (by decide) tyX39 tyX39_ok (by decide +kernel) q2511 (fun _ z => z) rfl rfl rfl (by show 5 < 7; decide) dX39_init_30 ?_
  rw [upx]
  refine nd_return hC rfl (by omega) (by omega) dX39_init_33 (hk _ (by rw [List.length_append, List.length_append, List.length_set, cl]; rfl) (fun a ha hab => ?_) ⟨base _, ⟨fun _ => 0, ?_⟩, ?_, by show 63 < 64; decide, fun j hj => ⟨fun _ => 0, ?_, fun i hi => rfl⟩, fun i hi => ⟨0, Nat.le_refl _, rfl⟩⟩)
  · rw [List.append_assoc, List.getElem?_append_left (by rw [List.length_set]; exact ha), List.getElem?_set_ne (Ne.symm hab)]
  · rw [List.append_assoc, List.getElem?_append_right (by rw [List.length_set]; exact Nat.le_refl _), List.length_set, Nat.sub_self]; rfl
  · rw [List.getElem?_append_right (by rw [List.length_append, List.length_set]; exact Nat.le_refl _), List.length_append, List.length_set, ← hcells]
    show _ = some (Sum.inl (5, 6, Sum.inr (Sum.inr (fun j => Value.ref (h.length + 1 + 1 + j)))))
    rw [show h.length + 1 - (h.length + [(.inl (0, 5, .inl (fun _ => 0)) : nd_C)].length) = 0 from Nat.sub_self _]; rfl
  · rw [List.getElem?_append_right (by rw [List.length_append, List.length_set]; show h.length + 1 ≤ _; omega), List.length_append, List.length_set, ← hcells, show h.length + 1 + 1 + j - (h.length + [(.inl (0, 5, .inl (fun _ => 0)) : nd_C)].length) = j + 1 by show h.length + 1 + 1 + j - (h.length + 1) = j + 1; omega]
    show (List.replicate 6 (.inl (0, 100, .inl (fun _ => 0)) : nd_C))[j]? = _
    rw [List.getElem?_replicate, if_pos hj]
theorem mk_mark {fr bk : Nat → Int32} {n : Nat} (h : mk_ok fr bk n) {x : Nat} (hx : x / 2 < n) : ∃ j, j < 100 ∧ lk_mk fr bk x = nI j ∧ (lk_mk fr bk x).toNatClampNeg = j := by
  obtain ⟨j, h1, h2⟩ := mk_in h hx
  exact ⟨j, h1, h2, by rw [h2, nI_cl (by omega)]⟩
theorem sn_bh_01 {fr bk : Nat → Int32} {n : Nat} {l : List (List Nat)} (hok : lk_ok n l) (hn : n ≤ 6) (hmk : mk_ok fr bk n) : ∀ k, k ≤ l.length → ∀ i, (100 * k ≤ i → sn_bh fr bk l (fun _ => 0) k i = nI 0) ∧ (sn_bh fr bk l (fun _ => 0) k i = nI 0 ∨ sn_bh fr bk l (fun _ => 0) k i = nI 1) := by
  intro k
  induction k with
  | zero => intro _ i; exact ⟨fun _ => rfl, Or.inl rfl⟩
  | succ k ih =>
    intro hk i
    obtain ⟨j, hj, -, ej⟩ := mk_mark hmk (x := lk_bot (l.getD k [])) (lk_bot_half hok hn (by omega))
    obtain ⟨h1, h2⟩ := ih (by omega) i
    unfold sn_bh
    rw [ej]
    by_cases e : i = 100 * k + j
    · subst e
      rw [upd_s, h1 (by omega)]
      exact ⟨fun q => by omega, Or.inr rfl⟩
    · rw [upd_n e]
      exact ⟨fun q => h1 (by omega), h2⟩
theorem sn_bh_c {fr bk : Nat → Int32} {n m : Nat} {l : List (List Nat)} {f : Nat → Int32} (hok : lk_ok n l) (hn : n ≤ 6) (hmk : mk_ok fr bk n) (hf : ∀ i, i < 600 → ∃ c, c ≤ m ∧ f i = nI c) : ∀ i, i < 600 → ∃ c, c ≤ m + 1 ∧ sn_bh fr bk l f l.length i = nI c := by
  intro i hi
  obtain ⟨c, hc, ec⟩ := hf i hi
  rw [sn_bh_add, ec]
  rcases (sn_bh_01 hok hn hmk l.length (Nat.le_refl _) i).2 with z | z
  · exact ⟨c, by omega, by rw [z]; show nI c + 0 = _; rw [Int32.add_zero]⟩
  · exact ⟨c + 1, by omega, by rw [z, nI_add]⟩
theorem cn_sees (hg : nd_OK g) (hd : 5 ≤ d) (hS : sy_ok S) (hK0 : cw_K o nap ds gi dss S h0) (hl0 : 123 ≤ h0.length) {b rb ob t L : Nat} {q : Nat × List Int64} {l : List (List Nat)} {s : sn_T} {x y : Int32} (hs : cw_S h) (f0 : cw_f h0 h) (hO : sn_O b rb ob t s h) (hb0 : h0.length ≤ b) (hrb : rb = b + 1) (hob : ob = b + 2) (hs1 : s.1 < 1000000) (ht : t < 4) (hq : sy_t S t = some q) (hL0 : L = 18 ∨ L = 27 ∨ L = 36 ∨ L = 45 ∨ L = 54 ∨ L = 63) (hl : ck_lk h L l) (hok : lk_ok (sy_n S) l)
    (kk : ∀ h2, sn_O b rb ob t (sn_C (sv_fr (sy_c S)) (sv_bk (sy_c S)) (sy_n S) q.2 s ([], l)) h2 → cw_S h2 → cw_f h0 h2 → h2.length = h.length → (∀ a, a < h0.length ∨ a = rb → h2[a]? = h[a]?) → K (.inl none) h2) : nd_M g mX39_sees d 0 0 [.ref b, .ref L, .int x, .int y] h K := by
  subst hrb
  subst hob
  have hn : sy_n S ≤ 6 := hS.1.1.1
  have hwd := lk_width hok
  have hsv : sv_ok (sy_n S) (sy_c S) := hS.1.2.1
  have hmk := sv_mk hsv
  have hlen : q.2.length ≤ 30 := (hS.2.2.1 t ht q hq).2
  obtain ⟨hb, ⟨rf, hrow⟩, hout, h64, hrows, hcnt⟩ := id hO
  have hK := hK0.f f0
  obtain ⟨⟨x0, hX⟩, -, hkk, -⟩ := id hK
  unfold cx_O at hX
  obtain ⟨hT, hbT⟩ := hK.ty ht hq
  unfold sn_C at kk
  refine nd_enter hg (by decide) rfl (Nat.le_of_ble_eq_true rfl) (fun X hC => ?_)
  refine nd_aload_n hC dX39_sees_0 rfl rfl ?_
  refine nd_get (ci := nX39) hC in_X39 rfl hb 6 (by decide) q2513 (fun _ z => z) rfl dX39_sees_1 ?_
  refine nd_aload_n hC dX39_sees_4 rfl rfl ?_
  refine nd_aload_n hC dX39_sees_5 rfl rfl ?_
  refine nd_get (ci := nX39) hC in_X39 rfl hb 2 (by decide) q2505 (fun _ z => z) rfl dX39_sees_6 ?_
  refine nd_callVN (mm2 := mX1_reads) (As := [_, _]) (mc2 := 0) (ms2 := 0) (d2 := d - 1) hC rfl q887 q149 q1016 q886 qs18 lmX1_reads (hX) rfl (Nat.le_of_ble_eq_true rfl) (by omega) rfl (by exact Nat.le_of_ble_eq_true rfl) (by omega) (by omega) dX39_sees_9 rfl ((cx_reads hg (by omega) hS hs hK hl hok hT hbT hlen ?_))
  cases er : lk_reads (sv_fr (sy_c S)) (sv_bk (sy_c S)) l q.2 with
  | false =>
    rw [if_neg (by show ¬ lk_reads _ _ l _ = true; rw [er]; decide)] at kk
    refine nd_if_neB hC (tgt := 16) dX39_sees_12 (by decide) (fun hq => absurd hq (by decide)) (fun _ => ?_)
    refine nd_return hC rfl (by omega) (by omega) dX39_sees_15 ((kk h hO hs f0 rfl (fun _ _ => rfl)))
  | true =>
    rw [if_pos (by show lk_reads _ _ l _ = true; exact er)] at kk
    refine nd_if_neB hC (tgt := 16) dX39_sees_12 (by decide) (fun _ => ?_) (fun hq => absurd hq (by decide))
    refine nd_aload_n hC dX39_sees_16 rfl rfl ?_
    refine nd_dup hC (by rfl) dX39_sees_17 ?_
    refine nd_get (ci := nX39) hC in_X39 rfl hb 4 (by decide) q2509 (fun _ z => z) rfl dX39_sees_18 ?_
    refine nd_iconst hC (v := nI 1) (by rfl) dX39_sees_21 ?_
    first | with_reducible refine nd_iaddN hC dX39_sees_22 ?_ | refine nd_iadd hC dX39_sees_22 ?_
    refine nd_put (ci := nX39) hC in_X39 rfl hb 4 (by decide) tyX39 tyX39_ok (by decide +kernel) q2509 (fun _ z => z) rfl rfl rfl (by show 4 < 7; decide) dX39_sees_23 ?_
    generalize hh1 : h.set b (.inr (nX39, List.set [.ref (b + 1), .ref 0, .ref (96 + t), .ref (b + 2), .int (nI s.1), .int (nI s.2.1), .ref 0] 4 (.int (nI (s.1 + 1))))) = h1
    have b1 : h1[b]? = some (.inr (nX39, [.ref (b + 1), .ref 0, .ref (96 + t), .ref (b + 2), .int (nI (s.1 + 1)), .int (nI s.2.1), .ref 0])) := by rw [← hh1]; exact List.getElem?_set_self (nd_get_lt hb)
    have k1 : ∀ a, a ≠ b → h1[a]? = h[a]? := fun a ha => by rw [← hh1]; exact List.getElem?_set_ne (Ne.symm ha)
    have e1 : h1.length = h.length := by rw [← hh1]; exact List.length_set
    have f1 : cw_f h0 h1 := by rw [← hh1]; exact f0.set (Or.inl hb0)
    have s1 : cw_S h1 := hs.kp (fun a ha => k1 a (by unfold cw_sc at ha; omega))
    have K1 := hK0.f f1
    obtain ⟨⟨x1, X1'⟩, -⟩ := id K1
    unfold cx_O at X1'
    have l1 : ck_lk h1 L l := by
      rw [← hh1]
      exact hl.fr (L := b) (n := 1) (ck_fr.set ⟨Nat.le_refl _, by omega⟩) (by omega)
    obtain ⟨w1, hi1, co1, L1, -, -⟩ := id l1
    have L1' := L1.1
    refine nd_iconst hC (v := nI 0) (by rfl) dX39_sees_26 ?_
    refine nd_istore hC dX39_sees_27 (Nat.le_of_ble_eq_true rfl) ?_
    refine nd_iconst hC (v := nI 0) (by rfl) dX39_sees_29 ?_
    refine nd_istore hC dX39_sees_30 (Nat.le_of_ble_eq_true rfl) ?_
    have LP1 : ∀ k, k ≤ sy_n S - 1 → nd_W g mX39_sees d 0 0 K X 32 [some (.ref b), some (.ref L), some (.int x), some (.int y), some (.int (nI (sc_st l k))), some (.int (nI k))] [] h1 0 0 := by
      refine nd_for _ _ ?_ ?_
      · have hst := sc_st_lt l (sy_n S - 1)
        have hp : 2 ^ (sy_n S - 1) ≤ 2 ^ 5 := Nat.pow_le_pow_right (by decide) (by omega)
        refine nd_iload hC dX39_sees_32 rfl ?_
        refine nd_iconst hC (v := nI 1) (by rfl) dX39_sees_34 ?_
        first | with_reducible refine nd_iaddN hC dX39_sees_35 ?_ | refine nd_iadd hC dX39_sees_35 ?_
        refine nd_aload_n hC dX39_sees_36 rfl rfl ?_
        refine nd_get (ci := nX39) hC in_X39 rfl b1 6 (by decide) q2513 (fun _ z => z) rfl dX39_sees_37 ?_
        refine nd_callVN (mm2 := mX1_cells) (As := []) (mc2 := 0) (ms2 := 0) (d2 := d - 1) hC rfl q817 q149 q1017 q816 qs16 lmX1_cells (X1') rfl (Nat.le_of_ble_eq_true rfl) (by omega) rfl (by exact Nat.le_of_ble_eq_true rfl) (by omega) (by omega) dX39_sees_40 rfl ((cx_cells hg (by omega) (K1.P s1) ?_))
        show nd_W _ _ _ _ _ _ _ _ _ [.int (nI (sy_n S)), .int (nI (sy_n S - 1 + 1))] _ _ _
        first | with_reducible refine nd_icmp_geN hC (tgt := 74) (by omega) (by omega) dX39_sees_43 (by decide) (fun hq => ?_) (fun hq => ?_) | refine nd_icmp_ge hC (tgt := 74) dX39_sees_43 (by decide) (fun hq => ?_) (fun hq => ?_)
        rotate_left
        · omega
        refine nd_aload_n hC dX39_sees_74 rfl rfl ?_
        refine nd_dup hC (by rfl) dX39_sees_75 ?_
        refine nd_get (ci := nX39) hC in_X39 rfl b1 5 (by decide) q2511 (fun _ z => z) rfl dX39_sees_76 ?_
        refine nd_iload hC dX39_sees_79 rfl ?_
        refine nd_iand hC dX39_sees_81 ?_
        rw [nx_and]
        refine nd_put (ci := nX39) hC in_X39 rfl b1 5 (by decide) tyX39 tyX39_ok (by decide +kernel) q2511 (fun _ z => z) rfl rfl rfl (by show 5 < 7; decide) dX39_sees_82 ?_
        generalize hh2 : h1.set b (.inr (nX39, List.set [.ref (b + 1), .ref 0, .ref (96 + t), .ref (b + 2), .int (nI (s.1 + 1)), .int (nI s.2.1), .ref 0] 5 (.int (nI (s.2.1 &&& sc_st l (sy_n S - 1)))))) = h2
        have b2 : h2[b]? = some (.inr (nX39, [.ref (b + 1), .ref 0, .ref (96 + t), .ref (b + 2), .int (nI (s.1 + 1)), .int (nI (s.2.1 &&& sc_st l (sy_n S - 1))), .ref 0])) := by rw [← hh2]; exact List.getElem?_set_self (nd_get_lt b1)
        have k2 : ∀ a, a ≠ b → h2[a]? = h[a]? := fun a ha => by rw [← hh2, List.getElem?_set_ne (Ne.symm ha)]; exact k1 a ha
        have e2 : h2.length = h.length := by rw [← hh2, List.length_set]; exact e1
        have f2 : cw_f h0 h2 := by rw [← hh2]; exact f1.set (Or.inl hb0)
        have l2 : ck_lk h2 L l := by
          rw [← hh2]
          exact l1.fr (L := b) (n := 1) (ck_fr.set ⟨Nat.le_refl _, by omega⟩) (by omega)
        refine nd_iconst hC (v := nI 0) (by rfl) dX39_sees_85 ?_
        refine nd_istore hC dX39_sees_86 (Nat.le_of_ble_eq_true rfl) ?_
        have LP2 : ∀ u, u ≤ l.length → ∀ h3 : nd_H, h3.length = h.length → (∀ a, ¬ (b + 3 ≤ a ∧ a < b + 9) → h3[a]? = h2[a]?) → cw_f h0 h3 → ck_lk h3 L l → (∀ j, j < 6 → ∃ f, h3[b + 2 + 1 + j]? = some (.inl (0, 100, .inl f)) ∧ ∀ i, i < 100 → f i = sn_bh (sv_fr (sy_c S)) (sv_bk (sy_c S)) l s.2.2 u (100 * j + i)) → nd_W g mX39_sees d 0 0 K X 88 [some (.ref b), some (.ref L), some (.int x), some (.int y), some (.int (nI (sc_st l (sy_n S - 1)))), some (.int (nI u))] [] h3 0 0 := by
          refine nd_for _ _ ?_ ?_
          · intro h3 e3 k3 f3 l3 r3
            obtain ⟨w3, hi3, co3, L3, hw3, -⟩ := id l3
            subst hw3
            have L3' := L3.1
            refine nd_iload hC dX39_sees_88 rfl ?_
            refine nd_aload_n hC dX39_sees_90 rfl rfl ?_
            refine nd_getN (ci := nX4) hC in_X4 rfl L3' 2 (by decide) q342 (fun _ z => z) rfl dX39_sees_91 ?_
            first | with_reducible refine nd_icmp_geN hC (tgt := 131) (by omega) (by omega) dX39_sees_94 (by decide) (fun hq => ?_) (fun hq => ?_) | refine nd_icmp_ge hC (tgt := 131) dX39_sees_94 (by decide) (fun hq => ?_) (fun hq => ?_)
            · refine nd_return hC rfl (by omega) (by omega) dX39_sees_131 ((kk h3 ⟨(k3 b (by omega)).trans b2, ⟨rf, (k3 _ (by omega)).trans ((k2 _ (by omega)).trans hrow)⟩, (k3 _ (by omega)).trans ((k2 _ (by omega)).trans hout), Nat.lt_of_le_of_lt Nat.and_le_left h64, r3, sn_bh_c hok hn hmk hcnt⟩ (hs.kp (fun a ha => (k3 a (by unfold cw_sc at ha; omega)).trans (k2 a (by unfold cw_sc at ha; omega)))) f3 e3 (fun a ha => (k3 a (by omega)).trans (k2 a (by omega)))))
            · omega
          · intro u hu ih h3 e3 k3 f3 l3 r3
            obtain ⟨w3, hi3, co3, L3, hw3, -⟩ := id l3
            subst hw3
            have L3' := L3.1
            have K3 := hK0.f f3
            obtain ⟨⟨x3, X3⟩, -, hkk3, -⟩ := id K3
            unfold cx_O at X3
            obtain ⟨fr3, bk3, fo3, mn3, S3, -⟩ := id hkk3.2.1
            have S3' := S3.1
            have b3 := (k3 b (by omega)).trans b2
            have o3 := (k3 (b + 2) (by omega)).trans ((k2 _ (by omega)).trans hout)
            obtain ⟨fu, ru, vu⟩ := r3 u (by omega)
            obtain ⟨j, hj, ej, ej2⟩ := mk_mark hmk (x := lk_bot (l.getD u [])) (lk_bot_half hok hn hu)
            refine nd_iload hC dX39_sees_88 rfl ?_
            refine nd_aload_n hC dX39_sees_90 rfl rfl ?_
            refine nd_getN (ci := nX4) hC in_X4 rfl L3' 2 (by decide) q342 (fun _ z => z) rfl dX39_sees_91 ?_
            first | with_reducible refine nd_icmp_geN hC (tgt := 131) (by omega) (by omega) dX39_sees_94 (by decide) (fun hq => ?_) (fun hq => ?_) | refine nd_icmp_ge hC (tgt := 131) dX39_sees_94 (by decide) (fun hq => ?_) (fun hq => ?_)
            · omega
            refine nd_aload_n hC dX39_sees_97 rfl rfl ?_
            refine nd_get (ci := nX39) hC in_X39 rfl b3 3 (by decide) q2507 (fun _ z => z) rfl dX39_sees_98 ?_
            refine nd_iload hC dX39_sees_101 rfl ?_
            refine nd_aaloadN hC rfl rfl o3 (by omega) (by omega) dX39_sees_103 ?_
            refine nd_aload_n hC dX39_sees_104 rfl rfl ?_
            refine nd_get (ci := nX39) hC in_X39 rfl b3 6 (by decide) q2513 (fun _ z => z) rfl dX39_sees_105 ?_
            refine nd_getN (ci := nX1) hC in_X1 rfl X3 0 (by decide) q382 (fun _ z => z) rfl dX39_sees_108 ?_
            refine nd_aload_n hC dX39_sees_111 rfl rfl ?_
            refine nd_iload hC dX39_sees_112 rfl ?_
            refine nd_callV (mm2 := mX4_beneath) (As := [_]) (mc2 := 0) (ms2 := 0) (d2 := d - 1) hC rfl lkX39_52 ⟨rfl, lmX4_beneath⟩ (L3') rfl (Nat.le_of_ble_eq_true rfl) (by omega) rfl (by exact Nat.le_of_ble_eq_true rfl) (by omega) (by omega) dX39_sees_114 rfl ((cl_beneath hg l3 hok hn hu ?_))
            refine nd_callV (mm2 := mX2_mark) (As := [_]) (mc2 := 0) (ms2 := 0) (d2 := d - 1) hC rfl lkX39_55 ⟨rfl, lmX2_mark⟩ (S3') rfl (Nat.le_of_ble_eq_true rfl) (by omega) rfl (by exact Nat.le_of_ble_eq_true rfl) (by omega) (by omega) dX39_sees_117 rfl ((cs_mark (s := sy_c S) hg hkk3.2.1 hsv.2.1 hsv.2.2.1 hn (lk_bot_half hok hn hu) ?_))
            rw [ej]
            refine nd_dup2_11 hC (by rfl) (by rfl) dX39_sees_120 ?_
            refine nd_ialoadN hC ru hj (by omega) dX39_sees_121 ?_
            refine nd_iconst hC (v := nI 1) (by rfl) dX39_sees_122 ?_
            refine nd_iadd hC dX39_sees_123 ?_
            refine nd_iastoreN hC ru hj (by omega) dX39_sees_124 ?_
            first | with_reducible refine nd_iincN hC dX39_sees_125 rfl (Nat.le_of_ble_eq_true rfl) ?_ | refine nd_iinc hC dX39_sees_125 rfl rfl (Nat.le_of_ble_eq_true rfl) ?_
            refine nd_goto hC (tgt := 88) dX39_sees_128 (by decide) ?_
            refine ih _ (by rw [List.length_set]; exact e3) (fun a ha => (List.getElem?_set_ne (by omega)).trans (k3 a ha)) (f3.set (Or.inl (by omega))) (l3.fr (L := b + 2 + 1 + u) (n := 1) (ck_fr.set ⟨Nat.le_refl _, by omega⟩) (by omega)) (fun j2 hj2 => ?_)
            by_cases z : j2 = u
            · subst z
              refine ⟨_, List.getElem?_set_self (nd_get_lt ru), fun i hi => ?_⟩
              show _ = upd _ (100 * j2 + _) _ _
              rw [ej2]
              by_cases z2 : i = j
              · subst z2; rw [upd_s, upd_s, vu i hj]
              · rw [upd_n z2, upd_n (by omega)]; exact vu i hi
            · obtain ⟨f2', r2', v2'⟩ := r3 j2 hj2
              refine ⟨f2', (List.getElem?_set_ne (by omega)).trans r2', fun i hi => ?_⟩
              show _ = upd _ (100 * u + _) _ _
              rw [ej2, upd_n (by omega)]
              exact v2' i hi
        exact LP2 0 (Nat.zero_le _) h2 e2 (fun _ _ => rfl) f2 l2 (fun j hj => by
          obtain ⟨f, r, v⟩ := hrows j hj
          exact ⟨f, (k2 _ (by omega)).trans r, v⟩)
      · intro k hk ih
        have hst := sc_st_lt l k
        have hp : 2 ^ k ≤ 2 ^ 5 := Nat.pow_le_pow_right (by decide) (by omega)
        have hcr := lk_cr_le l k
        refine nd_iload hC dX39_sees_32 rfl ?_
        refine nd_iconst hC (v := nI 1) (by rfl) dX39_sees_34 ?_
        first | with_reducible refine nd_iaddN hC dX39_sees_35 ?_ | refine nd_iadd hC dX39_sees_35 ?_
        refine nd_aload_n hC dX39_sees_36 rfl rfl ?_
        refine nd_get (ci := nX39) hC in_X39 rfl b1 6 (by decide) q2513 (fun _ z => z) rfl dX39_sees_37 ?_
        refine nd_callVN (mm2 := mX1_cells) (As := []) (mc2 := 0) (ms2 := 0) (d2 := d - 1) hC rfl q817 q149 q1017 q816 qs16 lmX1_cells (X1') rfl (Nat.le_of_ble_eq_true rfl) (by omega) rfl (by exact Nat.le_of_ble_eq_true rfl) (by omega) (by omega) dX39_sees_40 rfl ((cx_cells hg (by omega) (K1.P s1) ?_))
        show nd_W _ _ _ _ _ _ _ _ _ [.int (nI (sy_n S)), .int (nI (k + 1))] _ _ _
        first | with_reducible refine nd_icmp_geN hC (tgt := 74) (by omega) (by omega) dX39_sees_43 (by decide) (fun hq => ?_) (fun hq => ?_) | refine nd_icmp_ge hC (tgt := 74) dX39_sees_43 (by decide) (fun hq => ?_) (fun hq => ?_)
        · omega
        refine nd_iload hC dX39_sees_46 rfl ?_
        refine nd_aload_n hC dX39_sees_48 rfl rfl ?_
        refine nd_iload hC dX39_sees_49 rfl ?_
        refine nd_callV (mm2 := mX4_crease) (As := [_]) (mc2 := 0) (ms2 := 0) (d2 := d - 1) hC rfl lkX39_39 ⟨rfl, lmX4_crease⟩ (L1') rfl (Nat.le_of_ble_eq_true rfl) (by omega) rfl (by exact Nat.le_of_ble_eq_true rfl) (by omega) (by omega) dX39_sees_51 rfl ((cl_crease hg (by omega) l1 hok hn (k := k) (by omega) ?_))
        refine nd_if_le hC (tgt := 64) dX39_sees_54 (by decide) (fun hq2 => ?_) (fun hq2 => ?_)
        · have hz : lk_cr l k = 0 := by
            rw [Int32.le_iff_toInt_le, nI_toInt (by omega), Int32.toInt_zero] at hq2
            omega
          have es : sc_st l (k + 1) = sc_st l k ||| 0 := by show sc_st l k ||| _ = _; rw [if_neg (by omega)]
          rw [es] at ih
          refine nd_iconst hC (v := nI 0) (by rfl) dX39_sees_64 ?_
          refine nd_ior hC dX39_sees_65 ?_
          rw [nx_or]
          refine nd_istore hC dX39_sees_66 (Nat.le_of_ble_eq_true rfl) ?_
          first | with_reducible refine nd_iincN hC dX39_sees_68 rfl (Nat.le_of_ble_eq_true rfl) ?_ | refine nd_iinc hC dX39_sees_68 rfl rfl (Nat.le_of_ble_eq_true rfl) ?_
          refine nd_goto hC (tgt := 32) dX39_sees_71 (by decide) ?_
          exact ih
        · have hz : 0 < lk_cr l k := by
            rw [Int32.le_iff_toInt_le, nI_toInt (by omega), Int32.toInt_zero] at hq2
            omega
          have es : sc_st l (k + 1) = sc_st l k ||| 2 ^ k := by show sc_st l k ||| _ = _; rw [if_pos hz]
          rw [es] at ih
          refine nd_iconst hC (v := nI 1) (by rfl) dX39_sees_57 ?_
          refine nd_iload hC dX39_sees_58 rfl ?_
          refine nd_ishl hC dX39_sees_60 ?_
          rw [bt_shl (show k < 6 by omega)]
          refine nd_goto hC (tgt := 65) dX39_sees_61 (by decide) ?_
          refine nd_ior hC dX39_sees_65 ?_
          rw [nx_or]
          refine nd_istore hC dX39_sees_66 (Nat.le_of_ble_eq_true rfl) ?_
          first | with_reducible refine nd_iincN hC dX39_sees_68 rfl (Nat.le_of_ble_eq_true rfl) ?_ | refine nd_iinc hC dX39_sees_68 rfl rfl (Nat.le_of_ble_eq_true rfl) ?_
          refine nd_goto hC (tgt := 32) dX39_sees_71 (by decide) ?_
          exact ih
    exact LP1 0 (Nat.zero_le _)
end SN90

