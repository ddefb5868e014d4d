set_option maxRecDepth 100000
/-! ===== the class: napkins and states. o: whose a cell is (1: frozen for good) ===== -/
def fk (o : Nat → Nat) (h h2 : nd_H) : Prop := ∀ a, o a = 1 → h2[a]? = h[a]?
theorem fk.rfl {o : Nat → Nat} {h : nd_H} : fk o h h := fun _ _ => Eq.refl _
theorem fk.trans {o : Nat → Nat} {h h2 h3 : nd_H} (a : fk o h h2) (b : fk o h2 h3) : fk o h h3 := fun x hx => (b x hx).trans (a x hx)
theorem ck_fr.k {o : Nat → Nat} {L n : Nat} {h h2 : nd_H} (f : ck_fr L n h h2) (hz : ∀ a, o a = 1 → ¬ (L ≤ a ∧ a < L + n)) : fk o h h2 := fun a ha => f.2 a (hz a ha)
/-- a napkin of n cells -/
def cn_c (o : Nat → Nat) (h : nd_H) (nap n : Nat) : Prop := ∃ fa b1 b2 b3 b4 b5 b6 m ed, o nap = 1 ∧ o fa = 1 ∧ h[nap]? = some (.inr (nX3, [.ref fa, b1, b2, b3, b4, b5, b6])) ∧ h[fa]? = some (.inr (nJ2, [.int m, ed, .int (nI n)]))
theorem cn_c.k {o : Nat → Nat} {h h2 : nd_H} {nap n : Nat} (hN : cn_c o h nap n) (f : fk o h h2) : cn_c o h2 nap n := by
  obtain ⟨fa, b1, b2, b3, b4, b5, b6, m, ed, o1, o2, e1, e2⟩ := hN
  exact ⟨fa, b1, b2, b3, b4, b5, b6, m, ed, o1, o2, (f _ o1).trans e1, (f _ o2).trans e2⟩
/-- a State at a (a + 5 fronts, a + 6 backs, a + 7 folds) -/
def cs_S (h : nd_H) (a nap : Nat) (fr bk fo : Nat → Int32) (mn : Int32) : Prop := h[a]? = some (.inr (nX2, [.ref nap, .ref (a + 5), .ref (a + 6), .ref (a + 7), .int mn])) ∧ h[a + 5]? = some (.inl (0, 6, .inl fr)) ∧ h[a + 6]? = some (.inl (0, 6, .inl bk)) ∧ h[a + 7]? = some (.inl (0, 5, .inl fo))
def cs_v (fr bk fo : Nat → Int32) (mn : Int32) (s : sv) : Prop := mn = nI s.1.length ∧ (∀ i, i < s.1.length → fo i = nI (s.1.getD i 0)) ∧ (∀ c, c < s.2.1.length → fr c = nI (s.2.1.getD c 0)) ∧ ∀ c, c < s.2.2.length → bk c = nI (s.2.2.getD c 0)
def cs_st (h : nd_H) (a nap : Nat) (s : sv) : Prop := ∃ fr bk fo mn, cs_S h a nap fr bk fo mn ∧ cs_v fr bk fo mn s
theorem cs_S.fr {h h2 : nd_H} {a nap L n : Nat} {fr bk fo : Nat → Int32} {mn : Int32} (hS : cs_S h a nap fr bk fo mn) (f : ck_fr L n h h2) (hd : a + 8 ≤ L ∨ L + n ≤ a) : cs_S h2 a nap fr bk fo mn :=
  ⟨(f.2 _ (by omega)).trans hS.1, (f.2 _ (by omega)).trans hS.2.1, (f.2 _ (by omega)).trans hS.2.2.1, (f.2 _ (by omega)).trans hS.2.2.2⟩
theorem cs_st.fr {h h2 : nd_H} {a nap L n : Nat} {s : sv} (hS : cs_st h a nap s) (f : ck_fr L n h h2) (hd : a + 8 ≤ L ∨ L + n ≤ a) : cs_st h2 a nap s := by
  obtain ⟨fr, bk, fo, mn, a1, a2⟩ := hS
  exact ⟨fr, bk, fo, mn, a1.fr f hd, a2⟩
section CL5
variable {g : nd_G} {d : Nat} {K : nd_K} {h h0 : nd_H} {L M n : Nat} {l : List (List Nat)} {o : Nat → Nat} {nap S : Nat} {s : sv}
theorem ca_size (hg : nd_OK g) {a : Nat} {m : Int32} {ed : Value} {sz : Int32} (hb : h[a]? = some (.inr (nJ2, [.int m, ed, .int sz]))) (hk : K (.inl (some (.int sz))) h) : nd_M g mJ2_size d 0 0 [.ref a] h K := by
  refine nd_enter hg (by decide) rfl (Nat.le_of_ble_eq_true rfl) (fun X hC => ?_)
  refine nd_aload_n hC dJ2_size_0 rfl rfl ?_
  refine nd_get (ci := nJ2) hC in_J2 rfl hb 2 (by decide) q256 (fun _ z => z) rfl dJ2_size_1 ?_
  refine nd_ireturn hC rfl (by first | rfl | exact nd_b_nar _) (by omega) (by omega) dJ2_size_4 (hk)
theorem cn_cells (hg : nd_OK g) (hd : 1 ≤ d) (hN : cn_c o h nap n) (hk : K (.inl (some (.int (nI n)))) h) : nd_M g mX3_cells d 0 0 [.ref nap] h K := by
  obtain ⟨fa, b1, b2, b3, b4, b5, b6, m, ed, o1, o2, e1, e2⟩ := hN
  refine nd_enter hg (by decide) rfl (Nat.le_of_ble_eq_true rfl) (fun X hC => ?_)
  refine nd_aload_n hC dX3_cells_0 rfl rfl ?_
  refine nd_get (ci := nX3) hC in_X3 rfl e1 0 (by decide) q268 (fun _ z => z) rfl dX3_cells_1 ?_
  refine nd_callV (mm2 := mJ2_size) (As := []) (mc2 := 0) (ms2 := 0) (d2 := d - 1) hC rfl lkX3_22 ⟨rfl, lmJ2_size⟩ (e2) rfl (Nat.le_of_ble_eq_true rfl) (by omega) rfl (by exact Nat.le_of_ble_eq_true rfl) (by omega) (by omega) dX3_cells_4 rfl ((ca_size hg e2 ?_))
  refine nd_ireturn hC rfl (by first | rfl | exact nd_b_nar _) (by omega) (by omega) dX3_cells_7 (hk)
theorem cn_isCell (hg : nd_OK g) (hd : 2 ≤ d) (hN : cn_c o h nap n) (hn : n ≤ 6) {v : Int64} (hk : K (.inl (some (.int (nd_b (decide (0 ≤ v.toInt ∧ v.toInt ≤ (n : Int) - 1)))))) h) : nd_M g mX3_isCell d 0 0 [.ref nap, .long v] h K := by
  have hN0 := hN
  obtain ⟨fa, b1, b2, b3, b4, b5, b6, m, ed, o1, o2, e1, e2⟩ := hN
  refine nd_enter hg (by decide) rfl (Nat.le_of_ble_eq_true rfl) (fun X hC => ?_)
  refine nd_lload_n hC dX3_isCell_0 rfl ?_
  refine nd_lconst hC (v := lN 0) (by rfl) dX3_isCell_1 ?_
  refine nd_aload_n hC dX3_isCell_2 rfl rfl ?_
  refine nd_callV (mm2 := mX3_cells) (As := []) (mc2 := 0) (ms2 := 0) (d2 := d - 1) hC rfl lkX3_26 ⟨rfl, lmX3_cells⟩ (e1) rfl (Nat.le_of_ble_eq_true rfl) (by omega) rfl (by exact Nat.le_of_ble_eq_true rfl) (by omega) (by omega) dX3_isCell_3 rfl ((cn_cells hg (by omega) hN0 ?_))
  refine nd_iconst hC (v := nI 1) (by rfl) dX3_isCell_6 ?_
  refine nd_isub hC dX3_isCell_7 ?_
  refine nd_i2l hC dX3_isCell_8 ?_
  refine nd_callSN (mm2 := mX1_isIn) (As := [_, _, _]) (mc2 := 0) (ms2 := 0) (d2 := d - 1) hC rfl q631 q149 q1941 q630 lmX1_isIn (Nat.le_of_ble_eq_true rfl) (by omega) rfl (by exact Nat.le_of_ble_eq_true rfl) (by omega) (by omega) dX3_isCell_9 rfl ((ci_isIn hg ?_))
  have e : (decide (lN 0 ≤ v) && decide (v ≤ (nI n - nI 1).toInt64)) = decide (0 ≤ v.toInt ∧ v.toInt ≤ (n : Int) - 1) := by
    rw [Bool.eq_iff_iff, Bool.and_eq_true, nd_lle, nd_lle, nd_tl, nd_ti (by omega) (by omega), lN_toInt (by decide), decide_eq_true_iff]
    omega
  rw [e]
  refine nd_ireturn hC rfl (by first | rfl | exact nd_b_nar _) (by omega) (by omega) dX3_isCell_12 (hk)
theorem cs_mark (hg : nd_OK g) (hS : cs_st h S nap s) (h1 : s.2.1.length = n) (h2 : s.2.2.length = n) (hn : n ≤ 6) {x : Nat} (hx : x / 2 < n) (hk : K (.inl (some (.int (lk_mk (sv_fr s) (sv_bk s) x)))) h) : nd_M g mX2_mark d 0 0 [.ref S, .int (nI x)] h K := by
  obtain ⟨fr, bk, fo, mn, hS, e1, e2, e3, e4⟩ := hS
  unfold lk_mk at hk
  refine nd_enter hg (by decide) rfl (Nat.le_of_ble_eq_true rfl) (fun X hC => ?_)
  refine nd_iload_n hC dX2_mark_0 rfl ?_
  refine nd_iconst hC (v := nI 2) (by rfl) dX2_mark_1 ?_
  first | with_reducible refine nd_iremN hC (by omega) (by omega) (by omega) dX2_mark_2 ?_ | refine nd_irem hC (by decide) dX2_mark_2 ?_
  refine nd_iconst hC (v := nI 1) (by rfl) dX2_mark_3 ?_
  first | with_reducible refine nd_icmp_neN hC (tgt := 18) (by omega) (by omega) dX2_mark_4 (by decide) (fun hq => ?_) (fun hq => ?_) | refine nd_icmp_ne hC (tgt := 18) dX2_mark_4 (by decide) (fun hq => ?_) (fun hq => ?_)
  · rw [if_neg (by omega)] at hk
    refine nd_aload_n hC dX2_mark_18 rfl rfl ?_
    refine nd_get (ci := nX2) hC in_X2 rfl hS.1 2 (by decide) q304 (fun _ z => z) rfl dX2_mark_19 ?_
    refine nd_iload_n hC dX2_mark_22 rfl ?_
    refine nd_iconst hC (v := nI 2) (by rfl) dX2_mark_23 ?_
    first | with_reducible refine nd_idivN hC (by omega) (by omega) (by omega) dX2_mark_24 ?_ | refine nd_idiv hC (by decide) dX2_mark_24 ?_
    refine nd_ialoadN hC hS.2.2.1 (by omega) (by omega) dX2_mark_25 ?_
    refine nd_v_eq (congrArg Value.int (e4 (x / 2) (by omega))) ?_
    refine nd_ireturn hC rfl (by first | rfl | exact nd_b_nar _) (by omega) (by omega) dX2_mark_26 (hk)
  · rw [if_pos (by omega)] at hk
    refine nd_aload_n hC dX2_mark_7 rfl rfl ?_
    refine nd_get (ci := nX2) hC in_X2 rfl hS.1 1 (by decide) q302 (fun _ z => z) rfl dX2_mark_8 ?_
    refine nd_iload_n hC dX2_mark_11 rfl ?_
    refine nd_iconst hC (v := nI 2) (by rfl) dX2_mark_12 ?_
    first | with_reducible refine nd_idivN hC (by omega) (by omega) (by omega) dX2_mark_13 ?_ | refine nd_idiv hC (by decide) dX2_mark_13 ?_
    refine nd_ialoadN hC hS.2.1 (by omega) (by omega) dX2_mark_14 ?_
    refine nd_v_eq (congrArg Value.int (e3 (x / 2) (by omega))) ?_
    refine nd_goto hC (tgt := 26) dX2_mark_15 (by decide) ?_
    refine nd_ireturn hC rfl (by first | rfl | exact nd_b_nar _) (by omega) (by omega) dX2_mark_26 (hk)
theorem cs_all (hg : nd_OK g) (hd : 2 ≤ d) (hS : cs_st h S nap s) (hN : cn_c o h nap n) (h1 : s.2.1.length = n) (h2 : s.2.2.length = n) (hn : n ≤ 6) (hk : K (.inl (some (.int (lk_all (sv_fr s) (sv_bk s) n)))) h) : nd_M g mX2_all d 0 0 [.ref S] h K := by
  obtain ⟨fr, bk, fo, mn, hS, e1, e2, e3, e4⟩ := hS
  have hN0 := hN
  obtain ⟨fa, b1, b2, b3, b4, b5, b6, m, ed, o1, o2, f1, f2⟩ := hN
  refine nd_enter hg (by decide) rfl (Nat.le_of_ble_eq_true rfl) (fun X hC => ?_)
  refine nd_iconst hC (v := nI 0) (by rfl) dX2_all_0 ?_
  refine nd_istore_n hC dX2_all_1 (Nat.le_of_ble_eq_true rfl) ?_
  refine nd_iconst hC (v := nI 0) (by rfl) dX2_all_2 ?_
  refine nd_istore_n hC dX2_all_3 (Nat.le_of_ble_eq_true rfl) ?_
  have L1 : ∀ c, c ≤ n → nd_W g mX2_all d 0 0 K X 4 [some (.ref S), some (.int (l_sum (fun c => sv_fr s c + sv_bk s c) c)), some (.int (nI c))] [] h 0 0 := by
    refine nd_for _ _ ?_ ?_
    · refine nd_iload_n hC dX2_all_4 rfl ?_
      refine nd_aload_n hC dX2_all_5 rfl rfl ?_
      refine nd_get (ci := nX2) hC in_X2 rfl hS.1 0 (by decide) q300 (fun _ z => z) rfl dX2_all_6 ?_
      refine nd_callV (mm2 := mX3_cells) (As := []) (mc2 := 0) (ms2 := 0) (d2 := d - 1) hC rfl lkX2_38 ⟨rfl, lmX3_cells⟩ (f1) rfl (Nat.le_of_ble_eq_true rfl) (by omega) rfl (by exact Nat.le_of_ble_eq_true rfl) (by omega) (by omega) dX2_all_9 rfl ((cn_cells hg (by omega) hN0 ?_))
      first | with_reducible refine nd_icmp_geN hC (tgt := 37) (by omega) (by omega) dX2_all_12 (by decide) (fun hq => ?_) (fun hq => ?_) | refine nd_icmp_ge hC (tgt := 37) dX2_all_12 (by decide) (fun hq => ?_) (fun hq => ?_)
      · refine nd_iload_n hC dX2_all_37 rfl ?_
        refine nd_ireturn hC rfl (by first | rfl | exact nd_b_nar _) (by omega) (by omega) dX2_all_38 (hk)
      · omega
    · intro c hc ih
      refine nd_iload_n hC dX2_all_4 rfl ?_
      refine nd_aload_n hC dX2_all_5 rfl rfl ?_
      refine nd_get (ci := nX2) hC in_X2 rfl hS.1 0 (by decide) q300 (fun _ z => z) rfl dX2_all_6 ?_
      refine nd_callV (mm2 := mX3_cells) (As := []) (mc2 := 0) (ms2 := 0) (d2 := d - 1) hC rfl lkX2_38 ⟨rfl, lmX3_cells⟩ (f1) rfl (Nat.le_of_ble_eq_true rfl) (by omega) rfl (by exact Nat.le_of_ble_eq_true rfl) (by omega) (by omega) dX2_all_9 rfl ((cn_cells hg (by omega) hN0 ?_))
      first | with_reducible refine nd_icmp_geN hC (tgt := 37) (by omega) (by omega) dX2_all_12 (by decide) (fun hq => ?_) (fun hq => ?_) | refine nd_icmp_ge hC (tgt := 37) dX2_all_12 (by decide) (fun hq => ?_) (fun hq => ?_)
      · omega
      · refine nd_iload_n hC dX2_all_15 rfl ?_
        refine nd_aload_n hC dX2_all_16 rfl rfl ?_
        refine nd_get (ci := nX2) hC in_X2 rfl hS.1 1 (by decide) q302 (fun _ z => z) rfl dX2_all_17 ?_
        refine nd_iload_n hC dX2_all_20 rfl ?_
        refine nd_ialoadN hC hS.2.1 (by omega) (by omega) dX2_all_21 ?_
        refine nd_v_eq (congrArg Value.int (e3 c (by omega))) ?_
        refine nd_aload_n hC dX2_all_22 rfl rfl ?_
        refine nd_get (ci := nX2) hC in_X2 rfl hS.1 2 (by decide) q304 (fun _ z => z) rfl dX2_all_23 ?_
        refine nd_iload_n hC dX2_all_26 rfl ?_
        refine nd_ialoadN hC hS.2.2.1 (by omega) (by omega) dX2_all_27 ?_
        refine nd_v_eq (congrArg Value.int (e4 c (by omega))) ?_
        refine nd_iadd hC dX2_all_28 ?_
        refine nd_iadd hC dX2_all_29 ?_
        refine nd_istore_n hC dX2_all_30 (Nat.le_of_ble_eq_true rfl) ?_
        first | with_reducible refine nd_iincN hC dX2_all_31 rfl (Nat.le_of_ble_eq_true rfl) ?_ | refine nd_iinc hC dX2_all_31 rfl rfl (Nat.le_of_ble_eq_true rfl) ?_
        refine nd_goto hC (tgt := 4) dX2_all_34 (by decide) ?_
        exact ih
  exact L1 0 (Nat.zero_le _)
theorem cs_lies (hg : nd_OK g) (hd : 3 ≤ d) (hS : cs_st h0 S nap s) (hN : cn_c o h0 nap n) (hn : n ≤ 6) (hv : lk_val (lk_flat n) s.1) {A : Nat} (hA : ck_any h0 A) (hB : ck_any h0 (A + 9)) (hSA : S + 8 ≤ A ∨ A + 18 ≤ S) (hz : ∀ a, o a = 1 → ¬ (A ≤ a ∧ a < A + 18)) (hk : ∀ h2 R, (R = A ∨ R = A + 9) → ck_fr A 18 h0 h2 → ck_lk h2 R (lk_run (lk_flat n) s.1) → ck_any h2 A → ck_any h2 (A + 9) → K (.inl (some (.ref R))) h2) : nd_M g mX2_lies d 0 0 [.ref S, .ref A, .ref (A + 9)] h0 K := by
  have h5 := lk_val_le hn hv
  have hN0 := hN
  obtain ⟨fr0, bk, fo, mn, hS, e1, e2, e3, e4⟩ := hS
  obtain ⟨fa, b1, b2, b3, b4, b5, b6, m, ed, o1, o2, f1, f2⟩ := hN
  have hAc := hA
  obtain ⟨wA, hiA, coA, hAc⟩ := hAc
  have hS0 := hS
  subst e1
  refine nd_enter hg (by decide) rfl (Nat.le_of_ble_eq_true rfl) (fun X hC => ?_)
  refine nd_aload_n hC dX2_lies_0 rfl rfl ?_
  refine nd_aload_n hC dX2_lies_1 rfl rfl ?_
  refine nd_get (ci := nX2) hC in_X2 rfl hS.1 0 (by decide) q300 (fun _ z => z) rfl dX2_lies_2 ?_
  refine nd_callV (mm2 := mX3_cells) (As := []) (mc2 := 0) (ms2 := 0) (d2 := d - 1) hC rfl lkX2_38 ⟨rfl, lmX3_cells⟩ (f1) rfl (Nat.le_of_ble_eq_true rfl) (by omega) rfl (by exact Nat.le_of_ble_eq_true rfl) (by omega) (by omega) dX2_lies_5 rfl ((cn_cells hg (by omega) hN0 ?_))
  refine nd_callV (mm2 := mX4_flat) (As := [_]) (mc2 := 0) (ms2 := 0) (d2 := d - 1) hC rfl lkX2_58 ⟨rfl, lmX4_flat⟩ (hAc.1) rfl (Nat.le_of_ble_eq_true rfl) (by omega) rfl (by exact Nat.le_of_ble_eq_true rfl) (by omega) (by omega) dX2_lies_8 rfl ((cl_flat hg hA hn (fun h2 fr hl2 => ?_)))
  have hF : ck_fr A 18 h0 h2 := fr.sub (by omega) (by omega)
  have hB2 : ck_any h2 (A + 9) := hB.fr fr (by omega)
  refine nd_astore_n hC dX2_lies_11 (Nat.le_of_ble_eq_true rfl) rfl ?_
  refine nd_aload_n hC dX2_lies_12 rfl rfl ?_
  refine nd_astore hC dX2_lies_13 (Nat.le_of_ble_eq_true rfl) rfl ?_
  refine nd_iconst hC (v := nI 0) (by rfl) dX2_lies_15 ?_
  refine nd_istore hC dX2_lies_16 (Nat.le_of_ble_eq_true rfl) ?_
  have L1 : ∀ k, k ≤ s.1.length → ∀ h3 R Q lv6, (R = A ∧ Q = A + 9 ∨ R = A + 9 ∧ Q = A) → ck_fr A 18 h0 h3 → ck_lk h3 R (lk_run (lk_flat n) (s.1.take k)) → ck_any h3 Q → nd_W g mX2_lies d 0 0 K X 18 [some (.ref S), some (.ref A), some (.ref (A + 9)), some (.ref R), some (.ref Q), some (.int (nI k)), lv6] [] h3 0 0 := by
    refine nd_for _ _ ?_ ?_
    · intro h R Q lv6 hRQ hF hl hQ
      have hS := hS0.fr hF (by omega)
      rw [List.take_length] at hl
      refine nd_iload hC dX2_lies_18 rfl ?_
      refine nd_aload_n hC dX2_lies_20 rfl rfl ?_
      refine nd_get (ci := nX2) hC in_X2 rfl hS.1 4 (by decide) q308 (fun _ z => z) rfl dX2_lies_21 ?_
      first | with_reducible refine nd_icmp_geN hC (tgt := 67) (by omega) (by omega) dX2_lies_24 (by decide) (fun hq => ?_) (fun hq => ?_) | refine nd_icmp_ge hC (tgt := 67) dX2_lies_24 (by decide) (fun hq => ?_) (fun hq => ?_)
      · refine nd_aload_n hC dX2_lies_67 rfl rfl ?_
        refine nd_areturn hC rfl (by exact Or.inl ⟨_, rfl⟩) (by rfl) (by omega) (by omega) dX2_lies_68 (hk h R (by omega) hF hl ?_ ?_)
        · rcases hRQ with ⟨rfl, rfl⟩ | ⟨rfl, rfl⟩
          · exact hl.any
          · exact hQ
        · rcases hRQ with ⟨rfl, rfl⟩ | ⟨rfl, rfl⟩
          · exact hQ
          · exact hl.any
      · omega
    · intro k hk1 ih h R Q lv6 hRQ hF hl hQ
      have hS := hS0.fr hF (by omega)
      obtain ⟨⟨v1, v2, v3⟩, v4, v5⟩ := lk_step hv hk1
      have hok := lk_run_ok _ (lk_flat_ok n) v5
      have hwd := lk_width hok
      have hc99 : s.1.getD k 0 < 100 := by omega
      have hQc := hQ
      obtain ⟨wQ, hiQ, coQ, hQc⟩ := hQc
      refine nd_iload hC dX2_lies_18 rfl ?_
      refine nd_aload_n hC dX2_lies_20 rfl rfl ?_
      refine nd_get (ci := nX2) hC in_X2 rfl hS.1 4 (by decide) q308 (fun _ z => z) rfl dX2_lies_21 ?_
      first | with_reducible refine nd_icmp_geN hC (tgt := 67) (by omega) (by omega) dX2_lies_24 (by decide) (fun hq => ?_) (fun hq => ?_) | refine nd_icmp_ge hC (tgt := 67) dX2_lies_24 (by decide) (fun hq => ?_) (fun hq => ?_)
      · omega
      · refine nd_aload hC dX2_lies_27 rfl rfl ?_
        refine nd_aload_n hC dX2_lies_29 rfl rfl ?_
        refine nd_aload_n hC dX2_lies_30 rfl rfl ?_
        refine nd_get (ci := nX2) hC in_X2 rfl hS.1 3 (by decide) q306 (fun _ z => z) rfl dX2_lies_31 ?_
        refine nd_iload hC dX2_lies_34 rfl ?_
        refine nd_ialoadN hC hS.2.2.2 (by omega) (by omega) dX2_lies_36 ?_
        refine nd_v_eq (congrArg Value.int (e2 k hk1)) ?_
        refine nd_bipush hC (v := nI 10) (by rfl) dX2_lies_37 ?_
        first | with_reducible refine nd_idivN hC (by omega) (by omega) (by omega) dX2_lies_39 ?_ | refine nd_idiv hC (by decide) dX2_lies_39 ?_
        refine nd_aload_n hC dX2_lies_40 rfl rfl ?_
        refine nd_get (ci := nX2) hC in_X2 rfl hS.1 3 (by decide) q306 (fun _ z => z) rfl dX2_lies_41 ?_
        refine nd_iload hC dX2_lies_44 rfl ?_
        refine nd_ialoadN hC hS.2.2.2 (by omega) (by omega) dX2_lies_46 ?_
        refine nd_v_eq (congrArg Value.int (e2 k hk1)) ?_
        refine nd_bipush hC (v := nI 10) (by rfl) dX2_lies_47 ?_
        first | with_reducible refine nd_iremN hC (by omega) (by omega) (by omega) dX2_lies_49 ?_ | refine nd_irem hC (by decide) dX2_lies_49 ?_
        refine nd_callV (mm2 := mX4_folded) (As := [_, _, _]) (mc2 := 0) (ms2 := 0) (d2 := d - 1) hC rfl lkX2_64 ⟨rfl, lmX4_folded⟩ (hQc.1) rfl (Nat.le_of_ble_eq_true rfl) (by omega) rfl (by exact Nat.le_of_ble_eq_true rfl) (by omega) (by omega) dX2_lies_50 rfl ((cl_folded hg (by omega) hQ hl (by omega) hok hn v1 v2 v3 (fun h4 fr4 hl4 => ?_)))
        rw [← v4] at hl4
        refine nd_astore hC dX2_lies_53 (Nat.le_of_ble_eq_true rfl) rfl ?_
        refine nd_aload_n hC dX2_lies_55 rfl rfl ?_
        refine nd_astore hC dX2_lies_56 (Nat.le_of_ble_eq_true rfl) rfl ?_
        refine nd_aload hC dX2_lies_58 rfl rfl ?_
        refine nd_astore_n hC dX2_lies_60 (Nat.le_of_ble_eq_true rfl) rfl ?_
        first | with_reducible refine nd_iincN hC dX2_lies_61 rfl (Nat.le_of_ble_eq_true rfl) ?_ | refine nd_iinc hC dX2_lies_61 rfl rfl (Nat.le_of_ble_eq_true rfl) ?_
        refine nd_goto hC (tgt := 18) dX2_lies_64 (by decide) ?_
        exact ih h4 Q R _ (by omega) (hF.trans (fr4.sub (by omega) (by omega))) hl4 (hl.any.fr fr4 (by omega))
  exact L1 0 (Nat.zero_le _) h2 A (A + 9) _ (Or.inl ⟨rfl, rfl⟩) hF hl2 hB2
end CL5

