set_option maxRecDepth 100000
/-! ===== the class: a Look at L (L + 1 columns, L + 2 .. L + 7 rows, L + 8 high) ===== -/
def cw_L (h : nd_H) (L : Nat) (w : Int32) (hi : Nat → Int32) (co : Nat → Nat → Int32) : Prop :=
  h[L]? = some (.inr (nX4, [.ref (L + 1), .ref (L + 8), .int w])) ∧ h[L + 1]? = some (.inl (5, 6, .inr (.inr (fun t => .ref (L + 2 + t))))) ∧ (∀ t, t < 6 → h[L + 2 + t]? = some (.inl (0, 6, .inl (co t)))) ∧ h[L + 8]? = some (.inl (0, 6, .inl hi))
/-- nothing changes but n cells from L on -/
def ck_fr (L n : Nat) (h h2 : nd_H) : Prop := h2.length = h.length ∧ ∀ a, ¬ (L ≤ a ∧ a < L + n) → h2[a]? = h[a]?
theorem ck_fr.rfl {L n : Nat} {h : nd_H} : ck_fr L n h h := ⟨Eq.refl _, fun _ _ => Eq.refl _⟩
theorem ck_fr.trans {L n : Nat} {h h2 h3 : nd_H} (a : ck_fr L n h h2) (b : ck_fr L n h2 h3) : ck_fr L n h h3 := ⟨b.1.trans a.1, fun x hx => (b.2 x hx).trans (a.2 x hx)⟩
theorem ck_fr.sub {L n M m : Nat} {h h2 : nd_H} (a : ck_fr L n h h2) (h1 : M ≤ L) (h3 : L + n ≤ M + m) : ck_fr M m h h2 := ⟨a.1, fun x hx => a.2 x (by omega)⟩
theorem ck_fr.set {L n b : Nat} {h : nd_H} {c : nd_C} (hb : L ≤ b ∧ b < L + n) : ck_fr L n h (h.set b c) := ⟨List.length_set, fun a ha => List.getElem?_set_ne (by omega)⟩
theorem cw_L.fr {h h2 : nd_H} {L M n : Nat} {w : Int32} {hi : Nat → Int32} {co : Nat → Nat → Int32} (hM : cw_L h M w hi co) (f : ck_fr L n h h2) (hd : M + 9 ≤ L ∨ L + n ≤ M) : cw_L h2 M w hi co :=
  ⟨(f.2 _ (by omega)).trans hM.1, (f.2 _ (by omega)).trans hM.2.1, fun t ht => (f.2 _ (by omega)).trans (hM.2.2.1 t ht), (f.2 _ (by omega)).trans hM.2.2.2⟩
theorem nd_get_lt {h : nd_H} {b : Nat} {c : nd_C} (e : h[b]? = some c) : b < h.length := (List.getElem?_eq_some_iff.mp e).1
theorem cw_L.sHi {h : nd_H} {L : Nat} {w : Int32} {hi : Nat → Int32} {co : Nat → Nat → Int32} (hL : cw_L h L w hi co) (hi2 : Nat → Int32) : cw_L (h.set (L + 8) (.inl (0, 6, .inl hi2))) L w hi2 co :=
  ⟨by rw [List.getElem?_set_ne (by omega)]; exact hL.1, by rw [List.getElem?_set_ne (by omega)]; exact hL.2.1, fun t ht => by rw [List.getElem?_set_ne (by omega)]; exact hL.2.2.1 t ht, by rw [List.getElem?_set_self (nd_get_lt hL.2.2.2)]⟩
theorem cw_L.sCo {h : nd_H} {L t : Nat} {w : Int32} {hi : Nat → Int32} {co : Nat → Nat → Int32} (hL : cw_L h L w hi co) (ht : t < 6) (f : Nat → Int32) : cw_L (h.set (L + 2 + t) (.inl (0, 6, .inl f))) L w hi (va_up co t f) := by
  refine ⟨by rw [List.getElem?_set_ne (by omega)]; exact hL.1, by rw [List.getElem?_set_ne (by omega)]; exact hL.2.1, fun u hu => ?_, by rw [List.getElem?_set_ne (by omega)]; exact hL.2.2.2⟩
  by_cases e : u = t
  · subst e
    rw [List.getElem?_set_self (nd_get_lt (hL.2.2.1 u hu)), va_up_s]
  · rw [List.getElem?_set_ne (by omega), va_up_n _ _ e]; exact hL.2.2.1 u hu
theorem cw_L.sW {h : nd_H} {L : Nat} {w : Int32} {hi : Nat → Int32} {co : Nat → Nat → Int32} (hL : cw_L h L w hi co) (w2 : Int32) : cw_L (h.set L (.inr (nX4, [.ref (L + 1), .ref (L + 8), .int w2]))) L w2 hi co :=
  ⟨by rw [List.getElem?_set_self (nd_get_lt hL.1)], by rw [List.getElem?_set_ne (by omega)]; exact hL.2.1, fun t ht => by rw [List.getElem?_set_ne (by omega)]; exact hL.2.2.1 t ht, by rw [List.getElem?_set_ne (by omega)]; exact hL.2.2.2⟩
theorem cl_nm4 : nd_nm TX4 3 = true := by decide +kernel
section CL1
variable {g : nd_G} {mm : nd_Mt} {d mc ms : Nat} {K : nd_K} {X : nd_X} {pc : Nat} {lv : List (Option Value)} {st : List Value} {h : nd_H} {cs ss : Nat} {L M : Nat} {w : Int32} {hi : Nat → Int32} {co : Nat → Nat → Int32}
theorem cl_ast_hi (hC : nd_Cx g mm X) (hL : cw_L h L w hi co) {j : Nat} {x : Int32} (hj : j < 6) (hd : decode mm.2.1 pc = .ok (.iastore, 1)) (kk : ∀ h2, cw_L h2 L w (upd hi j x) co → ck_fr L 9 h h2 → nd_W g mm d mc ms K X (pc + 1) lv st h2 cs ss) : nd_W g mm d mc ms K X pc lv (.int x :: .int (nI j) :: .ref (L + 8) :: st) h cs ss :=
  nd_iastoreN hC hL.2.2.2 hj (by decide) hd (kk _ (hL.sHi _) (ck_fr.set (by omega)))
theorem cl_ast_co (hC : nd_Cx g mm X) (hL : cw_L h L w hi co) {t j : Nat} {x : Int32} (ht : t < 6) (hj : j < 6) (hd : decode mm.2.1 pc = .ok (.iastore, 1)) (kk : ∀ h2, cw_L h2 L w hi (va_up co t (upd (co t) j x)) → ck_fr L 9 h h2 → nd_W g mm d mc ms K X (pc + 1) lv st h2 cs ss) : nd_W g mm d mc ms K X pc lv (.int x :: .int (nI j) :: .ref (L + 2 + t) :: st) h cs ss :=
  nd_iastoreN hC (hL.2.2.1 t ht) hj (by decide) hd (kk _ (hL.sCo ht _) (ck_fr.set (by omega)))
theorem cl_put_w (hC : nd_Cx g mm X) (hL : cw_L h L w hi co) {index : Nat} {x : Int32} (hlink : Cond.fieldLink mm.1.cls index "NapkinDeeds$Look" "wide" "I" ∈ lw_all) (hd : decode mm.2.1 pc = .ok (.putfield index, 3)) (kk : ∀ h2, cw_L h2 L x hi co → ck_fr L 9 h h2 → nd_W g mm d mc ms K X (pc + 3) lv st h2 cs ss) : nd_W g mm d mc ms K X pc lv (.int x :: .ref L :: st) h cs ss :=
  nd_put (ci := nX4) hC in_X4 rfl hL.1 2 (by decide) tyX4 tyX4_ok cl_nm4 hlink (fun _ z => z) rfl rfl rfl (by show 2 < 3; decide) hd (kk _ (hL.sW x) (ck_fr.set (by omega)))
/-- a column holds a row of cells -/
def ck_cl (hi : Nat → Int32) (co : Nat → Nat → Int32) (t : Nat) (c : List Nat) : Prop := hi t = nI c.length ∧ ∀ i, i < c.length → co t i = nI (c.getD i 0)
theorem ck_cl.push {t x : Nat} {c : List Nat} (h : ck_cl hi co t c) : ck_cl (upd hi t (nI (c.length + 1))) (va_up co t (upd (co t) c.length (nI x))) t (c ++ [x]) := by
  refine ⟨by rw [upd_s, List.length_append]; rfl, fun i hi => ?_⟩
  rw [List.length_append, List.length_singleton] at hi
  rw [va_up_s]
  by_cases e : i = c.length
  · subst e; rw [upd_s, l_snoc_r]
  · rw [upd_n e, l_snoc_l (by omega)]; exact h.2 i (by omega)
def ck_o (t : Nat) (hi hi2 : Nat → Int32) (co co2 : Nat → Nat → Int32) : Prop := ∀ j, j ≠ t → hi2 j = hi j ∧ co2 j = co j
theorem ck_o.rfl {t : Nat} : ck_o t hi hi co co := fun _ _ => ⟨Eq.refl _, Eq.refl _⟩
theorem ck_o.trans {t : Nat} {hi2 hi3 : Nat → Int32} {co2 co3 : Nat → Nat → Int32} (a : ck_o t hi hi2 co co2) (b : ck_o t hi2 hi3 co2 co3) : ck_o t hi hi3 co co3 := fun j hj => ⟨(b j hj).1.trans (a j hj).1, (b j hj).2.trans (a j hj).2⟩
theorem ck_o.up {t : Nat} {x : Int32} {f : Nat → Int32} : ck_o t hi (upd hi t x) co (va_up co t f) := fun j hj => ⟨upd_n hj, va_up_n _ _ hj⟩
theorem cl_adds (hg : nd_OK g) (hL : cw_L h L w hi co) {t x : Nat} {c : List Nat} (ht : t < 6) (hc : ck_cl hi co t c) (h6 : c.length < 6) (hk : ∀ h2 hi2 co2, ck_fr L 9 h h2 → cw_L h2 L w hi2 co2 → ck_cl hi2 co2 t (c ++ [x]) → ck_o t hi hi2 co co2 → K (.inl none) h2) : nd_M g mX4_adds d 0 0 [.ref L, .int (nI t), .int (nI x)] h K := by
  have hF : ck_fr L 9 h h := ck_fr.rfl
  refine nd_enter hg (by decide) rfl (Nat.le_of_ble_eq_true rfl) (fun X hC => ?_)
  refine nd_aload_n hC dX4_adds_0 rfl rfl ?_
  refine nd_get (ci := nX4) hC in_X4 rfl hL.1 0 (by decide) q332 (fun _ z => z) rfl dX4_adds_1 ?_
  refine nd_iload_n hC dX4_adds_4 rfl ?_
  refine nd_aaloadN hC rfl rfl hL.2.1 (by omega) (by omega) dX4_adds_5 ?_
  refine nd_aload_n hC dX4_adds_6 rfl rfl ?_
  refine nd_get (ci := nX4) hC in_X4 rfl hL.1 1 (by decide) q336 (fun _ z => z) rfl dX4_adds_7 ?_
  refine nd_iload_n hC dX4_adds_10 rfl ?_
  refine nd_ialoadN hC hL.2.2.2 (by omega) (by omega) dX4_adds_11 ?_
  refine nd_v_eq (congrArg Value.int (hc.1)) ?_
  refine nd_iload_n hC dX4_adds_12 rfl ?_
  refine cl_ast_co hC hL ht (by omega) dX4_adds_13 (fun h hL fr => ?_)
  have hF := hF.trans fr
  refine nd_aload_n hC dX4_adds_14 rfl rfl ?_
  refine nd_get (ci := nX4) hC in_X4 rfl hL.1 1 (by decide) q336 (fun _ z => z) rfl dX4_adds_15 ?_
  refine nd_iload_n hC dX4_adds_18 rfl ?_
  refine nd_dup2_11 hC (by rfl) (by rfl) dX4_adds_19 ?_
  refine nd_ialoadN hC hL.2.2.2 (by omega) (by omega) dX4_adds_20 ?_
  refine nd_v_eq (congrArg Value.int (hc.1)) ?_
  refine nd_iconst hC (v := nI 1) (by rfl) dX4_adds_21 ?_
  first | with_reducible refine nd_iaddN hC dX4_adds_22 ?_ | refine nd_iadd hC dX4_adds_22 ?_
  refine cl_ast_hi hC hL (by omega) dX4_adds_23 (fun h hL fr => ?_)
  have hF := hF.trans fr
  refine nd_return hC rfl (by omega) (by omega) dX4_adds_24 ((hk h _ _ hF hL hc.push ck_o.up))
theorem lk_turn_take {s : List Nat} {m : Nat} (h : m < s.length) : lk_turn (s.take (m + 1)) = (s.getD m 0 ^^^ 1) :: lk_turn (s.take m) := by
  have e : s.take (m + 1) = s.take m ++ [s.getD m 0] := by
    rw [List.take_succ, List.getD_eq_getElem?_getD, List.getElem?_eq_getElem h]; rfl
  rw [e]
  simp [lk_turn]
theorem i_pred {m : Nat} (h : m + 1 < 2147483648) : (nI (m + 1) - nI 1 : Int32) = nI m := by
  rw [pk_sub (by omega)]; rfl
theorem i_dec (x : Int32) : x + Int32.ofInt (-1) = x - nI 1 := by
  rw [Int32.sub_eq_add_neg]; rfl
theorem i_neg0 : (nI 0 - nI 1 : Int32) < 0 := by decide
/-- where a column comes from: a place of the look, or none -/
def ck_from (l : List (List Nat)) (v : Int32) (s : List Nat) : Prop := (∃ f, f < l.length ∧ v = nI f ∧ s = l.getD f []) ∨ (v < 0 ∧ s = [])
/-- a look is held -/
def ck_lk (h : nd_H) (M : Nat) (l : List (List Nat)) : Prop := ∃ w hi co, cw_L h M w hi co ∧ w = nI l.length ∧ ∀ t, t < l.length → ck_cl hi co t (l.getD t [])
def ck_any (h : nd_H) (L : Nat) : Prop := ∃ w hi co, cw_L h L w hi co
theorem ck_lk.any {l : List (List Nat)} (h1 : ck_lk h M l) : ck_any h M := by obtain ⟨w, hi, co, a, -⟩ := h1; exact ⟨w, hi, co, a⟩
theorem ck_lk.fr {h2 : nd_H} {n : Nat} {l : List (List Nat)} (h1 : ck_lk h M l) (f : ck_fr L n h h2) (hd : M + 9 ≤ L ∨ L + n ≤ M) : ck_lk h2 M l := by obtain ⟨w, hi, co, a, b⟩ := h1; exact ⟨w, hi, co, a.fr f hd, b⟩
theorem ck_any.fr {h2 : nd_H} {n : Nat} (h1 : ck_any h M) (f : ck_fr L n h h2) (hd : M + 9 ≤ L ∨ L + n ≤ M) : ck_any h2 M := by obtain ⟨w, hi, co, a⟩ := h1; exact ⟨w, hi, co, a.fr f hd⟩
theorem cl_turns (hg : nd_OK g) (hd : 1 ≤ d) (hL : cw_L h L w hi co) {wM : Int32} {hiM : Nat → Int32} {coM : Nat → Nat → Int32} (hM : cw_L h M wM hiM coM) (hLM : L + 9 ≤ M ∨ M + 9 ≤ L) {l : List (List Nat)} (hl : l.length ≤ 6) (hlc : ∀ t, t < l.length → ck_cl hiM coM t (l.getD t [])) {v : Int32} {s c : List Nat} (hv : ck_from l v s) {t : Nat} (ht : t < 6) (hc : ck_cl hi co t c) (h6 : c.length + s.length ≤ 6) (hk : ∀ h2 hi2 co2, ck_fr L 9 h h2 → cw_L h2 L w hi2 co2 → ck_cl hi2 co2 t (c ++ lk_turn s) → ck_o t hi hi2 co co2 → K (.inl none) h2) : nd_M g mX4_turns d 0 0 [.ref L, .ref M, .int v, .int (nI t)] h K := by
  rcases hv with ⟨f, hf, rfl, rfl⟩ | ⟨hv, rfl⟩
  · have hcf := hlc f hf
    refine nd_enter hg (by decide) rfl (Nat.le_of_ble_eq_true rfl) (fun X hC => ?_)
    refine nd_iload_n hC dX4_turns_0 rfl ?_
    refine nd_if_ge hC (tgt := 5) dX4_turns_1 (by decide) (fun hq => ?_) (fun hq => ?_)
    · refine nd_aload_n hC dX4_turns_5 rfl rfl ?_
      refine nd_get (ci := nX4) hC in_X4 rfl hM.1 1 (by decide) q336 (fun _ z => z) rfl dX4_turns_6 ?_
      refine nd_iload_n hC dX4_turns_9 rfl ?_
      refine nd_ialoadN hC hM.2.2.2 (by omega) (by omega) dX4_turns_10 ?_
      refine nd_v_eq (congrArg Value.int (hcf.1)) ?_
      refine nd_iconst hC (v := nI 1) (by rfl) dX4_turns_11 ?_
      refine nd_isub hC dX4_turns_12 ?_
      refine nd_istore hC dX4_turns_13 (Nat.le_of_ble_eq_true rfl) ?_
      have L1 : ∀ m, m ≤ (l.getD f []).length → ∀ c1 h1 hi1 co1, cw_L h1 L w hi1 co1 → ck_fr L 9 h h1 → ck_cl hi1 co1 t c1 → c1.length + m ≤ 6 → c1 ++ lk_turn ((l.getD f []).take m) = c ++ lk_turn (l.getD f []) → ck_o t hi hi1 co co1 → nd_W g mX4_turns d 0 0 K X 15 [some (.ref L), some (.ref M), some (.int (nI f)), some (.int (nI t)), some (.int (nI m - nI 1))] [] h1 0 0 := by
        intro m
        induction m with
        | zero =>
          intro hm c1 h hi1 co1 hL hF hc1 h61 e1 ho
          refine nd_iload hC dX4_turns_15 rfl ?_
          refine nd_if_lt hC (tgt := 42) dX4_turns_17 (by decide) (fun hq2 => ?_) (fun hq2 => ?_)
          · have e1 : c1 = c ++ lk_turn (l.getD f []) := by rw [← e1]; simp [lk_turn]
            refine nd_return hC rfl (by omega) (by omega) dX4_turns_42 ((hk h hi1 co1 hF hL (by rw [← e1]; exact hc1) ho))
          · exact absurd i_neg0 hq2
        | succ m ih =>
          intro hm c1 h hi1 co1 hL hF hc1 h61 e1 ho
          have hM := hM.fr hF (by omega)
          rw [lk_turn_take (by omega)] at e1
          refine nd_forget (lv2 := [some (.ref L), some (.ref M), some (.int (nI f)), some (.int (nI t)), some (.int (nI m))]) (fun i v hi => by rw [i_pred (by omega)]; exact hi) ?_
          refine nd_iload hC dX4_turns_15 rfl ?_
          refine nd_if_lt hC (tgt := 42) dX4_turns_17 (by decide) (fun hq2 => ?_) (fun hq2 => ?_)
          · exact absurd hq2 (by rw [Int32.lt_iff_toInt_lt, nI_toInt (by omega)]; show ¬ (m : Int) < 0; omega)
          · refine nd_aload_n hC dX4_turns_20 rfl rfl ?_
            refine nd_iload_n hC dX4_turns_21 rfl ?_
            refine nd_aload_n hC dX4_turns_22 rfl rfl ?_
            refine nd_get (ci := nX4) hC in_X4 rfl hM.1 0 (by decide) q332 (fun _ z => z) rfl dX4_turns_23 ?_
            refine nd_iload_n hC dX4_turns_26 rfl ?_
            refine nd_aaloadN hC rfl rfl hM.2.1 (by omega) (by omega) dX4_turns_27 ?_
            refine nd_iload hC dX4_turns_28 rfl ?_
            refine nd_ialoadN hC (hM.2.2.1 _ (by omega)) (by omega) (by omega) dX4_turns_30 ?_
            refine nd_v_eq (congrArg Value.int (hcf.2 m (by omega))) ?_
            refine nd_iconst hC (v := nI 1) (by rfl) dX4_turns_31 ?_
            refine nd_ixor hC dX4_turns_32 ?_
            refine nd_v_eq (congrArg Value.int (nx_xor ..)) ?_
            refine nd_callV (mm2 := mX4_adds) (As := [_, _]) (mc2 := 0) (ms2 := 0) (d2 := d - 1) hC rfl lkX4_44 ⟨rfl, lmX4_adds⟩ (hL.1) rfl (Nat.le_of_ble_eq_true rfl) (by omega) rfl (by exact Nat.le_of_ble_eq_true rfl) (by omega) (by omega) dX4_turns_33 rfl ((cl_adds (c := c1) hg hL ht hc1 (by omega) (fun h2 hi2 co2 fr hL2 hc2 ho2 => ?_)))
            refine nd_iinc hC dX4_turns_36 rfl (i_dec _) (Nat.le_of_ble_eq_true rfl) ?_
            refine nd_goto hC (tgt := 15) dX4_turns_39 (by decide) ?_
            exact ih (by omega) _ h2 hi2 co2 hL2 (hF.trans fr) hc2 (by rw [List.length_append, List.length_singleton]; omega) (by rw [List.append_assoc]; exact e1) (ho.trans ho2)
      exact L1 _ (Nat.le_refl _) c h hi co hL ck_fr.rfl hc h6 (by rw [List.take_length]) ck_o.rfl
    · exact absurd (show (0 : Int32) ≤ nI f by rw [Int32.le_iff_toInt_le, nI_toInt (by omega)]; show (0 : Int) ≤ f; omega) hq
  · refine nd_enter hg (by decide) rfl (Nat.le_of_ble_eq_true rfl) (fun X hC => ?_)
    refine nd_iload_n hC dX4_turns_0 rfl ?_
    refine nd_if_ge hC (tgt := 5) dX4_turns_1 (by decide) (fun hq => ?_) (fun hq => ?_)
    · exact absurd hv (Int32.not_lt.mpr hq)
    · refine nd_return hC rfl (by omega) (by omega) dX4_turns_4 ((hk h hi co ck_fr.rfl hL (by simpa [lk_turn] using hc) ck_o.rfl))
end CL1

