set_option maxRecDepth 100000
/-! ===== the reference's reader: the state between tokens ===== -/
theorem tx_w_iff {T : List Nat} {p : Nat} {w : List Nat} : tx_w T p w = true ↔ tx_k T p = 1 ∧ tx_h T p - tx_b T p = w.length ∧ ∀ j, j < w.length → T.getD (tx_b T p + j) 0 = w.getD j 0 := by
  unfold tx_w
  rw [Bool.and_eq_true, Bool.and_eq_true, decide_eq_true_iff, decide_eq_true_iff, List.all_eq_true]
  constructor
  · rintro ⟨⟨a, b⟩, c⟩
    exact ⟨a, b, fun j hj => by simpa using c j (List.mem_range.mpr hj)⟩
  · rintro ⟨a, b, c⟩
    exact ⟨⟨a, b⟩, fun j hj => by simpa using c j (List.mem_range.mp hj)⟩
def tx_Z (T : List Nat) (dp : Nat) (r : tx_R) (F : Nat → Int32) : Prop := match r with
  | .inl x => tx_F T x.2 dp F
  | .inr e => F 12 = nI e.1 ∧ F 13 = nI e.2 ∧ 1 ≤ e.1 ∧ e.1 ≤ 4
def tx_y (F F2 : Nat → Int32) : Prop := ∀ k, (k < 8 ∨ k = 14 ∨ k = 15 ∨ 17 ≤ k) → F2 k = F k
theorem tx_y.rfl {F : Nat → Int32} : tx_y F F := fun _ _ => Eq.refl _
theorem tx_y.trans {F F2 F3 : Nat → Int32} (h : tx_y F F2) (h2 : tx_y F2 F3) : tx_y F F3 := fun k hk => (h2 k hk).trans (h k hk)
theorem tx_y.u {F F2 : Nat → Int32} (h : tx_y F F2) : tx_u F F2 := fun k hk => h k (by omega)
theorem tx_y.on {F F2 : Nat → Int32} (h : ∀ k, (k < 8 ∨ 12 ≤ k) → F2 k = F k) : tx_y F F2 := fun k hk => h k (by omega)
theorem tx_y.up {F F2 : Nat → Int32} {j : Nat} {v : Int32} (h : tx_y F F2) (hj : 8 ≤ j ∧ j < 17 ∧ j ≠ 14 ∧ j ≠ 15) : tx_y F (va_up F2 j v) := fun k hk => by rw [va_up_n _ _ (by omega)]; exact h k hk
def tx_is (T : List Nat) (c : Nat) (r : tx_R) : Bool := match r with
  | .inl x => decide (tx_k T x.2 = c)
  | .inr _ => false
def tx_isw (T w : List Nat) (r : tx_R) : Bool := match r with
  | .inl x => tx_w T x.2 w
  | .inr _ => false
def tx_bl (T : List Nat) (k : Nat) (r : tx_R) : Nat × Nat := match r with
  | .inl x => tx_e T x.2 k
  | .inr e => e
/-- the place stays within the text -/
def tx_in (T : List Nat) (r : tx_R) : Prop := match r with
  | .inl x => x.2 ≤ T.length
  | .inr _ => True
theorem tx_gd.i {T : List Nat} {a : Nat} {r : tx_R} (h : tx_gd T a r) : tx_in T r := by
  cases r with
  | inl x => exact h.2
  | inr e => trivial
theorem tx_Z.e {T : List Nat} {dp : Nat} {e : Nat × Nat} {F : Nat → Int32} (dp2 : Nat) (h : tx_Z T dp (.inr e) F) : tx_Z T dp2 (.inr e) F := h
theorem tx_bind_c {x y : List Nat × Nat} {f : Nat → tx_R} (h : f x.2 = .inl y) : tx_bind (.inl x) f = .inl (x.1 ++ y.1, y.2) := by
  show (match f x.2 with
    | .inl y => (.inl (x.1 ++ y.1, y.2) : tx_R)
    | .inr e => .inr e) = _
  rw [h]
theorem tx_bind_ce {x : List Nat × Nat} {e : Nat × Nat} {f : Nat → tx_R} (h : f x.2 = .inr e) : tx_bind (.inl x) f = .inr e := by
  show (match f x.2 with
    | .inl y => (.inl (x.1 ++ y.1, y.2) : tx_R)
    | .inr e => .inr e) = _
  rw [h]
theorem tx_bind_g {x : List Nat × Nat} {f f2 : Nat → tx_R} (h : f x.2 = f2 x.2) : tx_bind (.inl x) f = tx_bind (.inl x) f2 := by
  show (match f x.2 with
    | .inl y => (.inl (x.1 ++ y.1, y.2) : tx_R)
    | .inr e => .inr e) = (match f2 x.2 with
    | .inl y => (.inl (x.1 ++ y.1, y.2) : tx_R)
    | .inr e => .inr e)
  rw [h]
theorem tx_bind_on (T : List Nat) (x : List Nat × Nat) : tx_bind (.inl x) (tx_on T) = .inl (x.1, tx_h T x.2) := by
  show (.inl (x.1 ++ [], tx_h T x.2) : tx_R) = _
  rw [List.append_nil]
theorem tx_bind_lay (c : Nat) (x : List Nat × Nat) : tx_bind (.inl x) (tx_lay c) = .inl (x.1 ++ [c], x.2) := rfl
theorem nI_m1 {j : Nat} (hj : j < 2147483648) : ¬ nI j = (-1 : Int32) := by
  intro e
  have e2 := congrArg Int32.toInt e
  rw [nI_toInt hj] at e2
  have e3 : (-1 : Int32).toInt = -1 := rfl
  omega
section RT2
variable {g : nd_G} {d : Nat} {K : nd_K} {h h0 : nd_H} {A : Nat → Nat → Int32} {F : Nat → Int32} {B : Nat → Nat → Int64} {T : List Nat} {dp : Nat} {r : tx_R}
theorem sr_blames (hg : nd_OK g) (hw : mo_W h0 A F B h) (hZ : tx_Z T dp r F) {k : Nat} (hk1 : 1 ≤ k) (hk2 : k ≤ 4) (hk : ∀ F2 h2, mo_W h0 A F2 B h2 → tx_y F F2 → tx_Z T dp (.inr (tx_bl T k r)) F2 → K (.inl none) h2) : nd_M g mX7_blames d 0 0 [.ref 101, .int (nI k)] h K := by
  cases r with
  | inr e =>
    obtain ⟨z1, z2, z3, z4⟩ := hZ
    refine nd_enter hg (by decide) rfl (Nat.le_of_ble_eq_true rfl) (fun X hC => ?_)
    refine nd_aload_n hC dX7_blames_0 rfl rfl ?_
    refine mo_get_bad hC hw rfl dX7_blames_1 ?_
    refine nd_v_eq (congrArg Value.int (z1)) ?_
    first | with_reducible refine nd_if_eqB hC (tgt := 8) dX7_blames_4 (by decide) (fun hc => ?_) (fun hc => ?_) | with_reducible refine nd_if_eqN hC (tgt := 8) (by omega) dX7_blames_4 (by decide) (fun hc => ?_) (fun hc => ?_) | refine nd_if_eq hC (tgt := 8) dX7_blames_4 (by decide) (fun hc => ?_) (fun hc => ?_)
    · omega
    · refine nd_return hC rfl (by omega) (by omega) dX7_blames_7 ((hk F h hw tx_y.rfl ⟨z1, z2, z3, z4⟩))
  | inl x =>
    obtain ⟨f7, f8, f9, f10, f11, f12, f16⟩ := hZ
    have hkl := tx_k_lt T x.2
    refine nd_enter hg (by decide) rfl (Nat.le_of_ble_eq_true rfl) (fun X hC => ?_)
    refine nd_aload_n hC dX7_blames_0 rfl rfl ?_
    refine mo_get_bad hC hw rfl dX7_blames_1 ?_
    refine nd_v_eq (congrArg Value.int (f12)) ?_
    first | with_reducible refine nd_if_eqB hC (tgt := 8) dX7_blames_4 (by decide) (fun hc => ?_) (fun hc => ?_) | with_reducible refine nd_if_eqN hC (tgt := 8) (by omega) dX7_blames_4 (by decide) (fun hc => ?_) (fun hc => ?_) | refine nd_if_eq hC (tgt := 8) dX7_blames_4 (by decide) (fun hc => ?_) (fun hc => ?_)
    · refine nd_aload_n hC dX7_blames_8 rfl rfl ?_
      refine nd_aload_n hC dX7_blames_9 rfl rfl ?_
      refine mo_get_token hC hw rfl dX7_blames_10 ?_
      refine nd_v_eq (congrArg Value.int (f10)) ?_
      refine nd_iconst hC (v := nI 3) (by rfl) dX7_blames_13 ?_
      first | with_reducible refine nd_icmp_neN hC (tgt := 21) (by omega) (by omega) dX7_blames_14 (by decide) (fun hq => ?_) (fun hq => ?_) | refine nd_icmp_ne hC (tgt := 21) dX7_blames_14 (by decide) (fun hq => ?_) (fun hq => ?_)
      · refine nd_iload_n hC dX7_blames_21 rfl ?_
        refine mo_put_bad hC hw rfl dX7_blames_22 (fun h hw => ?_)
        refine nd_aload_n hC dX7_blames_25 rfl rfl ?_
        refine nd_aload_n hC dX7_blames_26 rfl rfl ?_
        refine mo_get_begin hC hw rfl dX7_blames_27 ?_
        refine nd_v_eq (congrArg Value.int (f9)) ?_
        refine mo_put_badPlace hC hw rfl dX7_blames_30 (fun h hw => ?_)
        refine nd_return hC rfl (by omega) (by omega) dX7_blames_33 ((hk _ h hw ((tx_y.rfl.up (by omega)).up (by omega)) ⟨by show nI k = nI (if tx_k T x.2 = 3 then 1 else k); rw [if_neg hq], rfl, by show 1 ≤ (if tx_k T x.2 = 3 then 1 else k); rw [if_neg hq]; exact hk1, by show (if tx_k T x.2 = 3 then 1 else k) ≤ 4; rw [if_neg hq]; exact hk2⟩))
      · refine nd_iconst hC (v := nI 1) (by rfl) dX7_blames_17 ?_
        refine nd_goto hC (tgt := 22) dX7_blames_18 (by decide) ?_
        refine mo_put_bad hC hw rfl dX7_blames_22 (fun h hw => ?_)
        refine nd_aload_n hC dX7_blames_25 rfl rfl ?_
        refine nd_aload_n hC dX7_blames_26 rfl rfl ?_
        refine mo_get_begin hC hw rfl dX7_blames_27 ?_
        refine nd_v_eq (congrArg Value.int (f9)) ?_
        refine mo_put_badPlace hC hw rfl dX7_blames_30 (fun h hw => ?_)
        refine nd_return hC rfl (by omega) (by omega) dX7_blames_33 ((hk _ h hw ((tx_y.rfl.up (by omega)).up (by omega)) ⟨by show nI 1 = nI (if tx_k T x.2 = 3 then 1 else k); rw [if_pos hq], rfl, by show 1 ≤ (if tx_k T x.2 = 3 then 1 else k); rw [if_pos hq]; decide, by show (if tx_k T x.2 = 3 then 1 else k) ≤ 4; rw [if_pos hq]; decide⟩))
    · exact absurd rfl hc
theorem sr_isSign (hg : nd_OK g) (hw : mo_W h0 A F B h) (hZ : tx_Z T dp r F) {c : Nat} (hc9 : c < 256) (hk : K (.inl (some (.int (nd_b (tx_is T c r))))) h) : nd_M g mX7_isSign d 0 0 [.ref 101, .int (nI c)] h K := by
  cases r with
  | inr e =>
    obtain ⟨z1, z2, z3, z4⟩ := hZ
    refine nd_enter hg (by decide) rfl (Nat.le_of_ble_eq_true rfl) (fun X hC => ?_)
    refine nd_aload_n hC dX7_isSign_0 rfl rfl ?_
    refine mo_get_bad hC hw rfl dX7_isSign_1 ?_
    refine nd_v_eq (congrArg Value.int (z1)) ?_
    first | with_reducible refine nd_if_neB hC (tgt := 19) dX7_isSign_4 (by decide) (fun hc => ?_) (fun hc => ?_) | with_reducible refine nd_if_neN hC (tgt := 19) (by omega) dX7_isSign_4 (by decide) (fun hc => ?_) (fun hc => ?_) | refine nd_if_ne hC (tgt := 19) dX7_isSign_4 (by decide) (fun hc => ?_) (fun hc => ?_)
    · refine nd_iconst hC (v := nI 0) (by rfl) dX7_isSign_19 ?_
      refine nd_ireturn hC rfl (by first | rfl | exact nd_b_nar _) (by omega) (by omega) dX7_isSign_20 (hk)
    · omega
  | inl x =>
    obtain ⟨f7, f8, f9, f10, f11, f12, f16⟩ := hZ
    have hkl := tx_k_lt T x.2
    have hk : K (.inl (some (.int (nd_b (decide (tx_k T x.2 = c)))))) h := hk
    refine nd_enter hg (by decide) rfl (Nat.le_of_ble_eq_true rfl) (fun X hC => ?_)
    refine nd_aload_n hC dX7_isSign_0 rfl rfl ?_
    refine mo_get_bad hC hw rfl dX7_isSign_1 ?_
    refine nd_v_eq (congrArg Value.int (f12)) ?_
    first | with_reducible refine nd_if_neB hC (tgt := 19) dX7_isSign_4 (by decide) (fun hc => ?_) (fun hc => ?_) | with_reducible refine nd_if_neN hC (tgt := 19) (by omega) dX7_isSign_4 (by decide) (fun hc => ?_) (fun hc => ?_) | refine nd_if_ne hC (tgt := 19) dX7_isSign_4 (by decide) (fun hc => ?_) (fun hc => ?_)
    · omega
    · refine nd_aload_n hC dX7_isSign_7 rfl rfl ?_
      refine mo_get_token hC hw rfl dX7_isSign_8 ?_
      refine nd_v_eq (congrArg Value.int (f10)) ?_
      refine nd_iload_n hC dX7_isSign_11 rfl ?_
      first | with_reducible refine nd_icmp_neN hC (tgt := 19) (by omega) (by omega) dX7_isSign_12 (by decide) (fun hq => ?_) (fun hq => ?_) | refine nd_icmp_ne hC (tgt := 19) dX7_isSign_12 (by decide) (fun hq => ?_) (fun hq => ?_)
      · rw [decide_eq_false hq] at hk
        refine nd_iconst hC (v := nI 0) (by rfl) dX7_isSign_19 ?_
        refine nd_ireturn hC rfl (by first | rfl | exact nd_b_nar _) (by omega) (by omega) dX7_isSign_20 (hk)
      · rw [decide_eq_true hq] at hk
        refine nd_iconst hC (v := nI 1) (by rfl) dX7_isSign_15 ?_
        refine nd_goto hC (tgt := 20) dX7_isSign_16 (by decide) ?_
        refine nd_ireturn hC rfl (by first | rfl | exact nd_b_nar _) (by omega) (by omega) dX7_isSign_20 (hk)
theorem sr_isWord (hg : nd_OK g) (hd : 4 ≤ d) (hw : mo_W h0 A F B h) (htp : tx_tp A T) (hin : tx_in T r) (hZ : tx_Z T dp r F) {i : Nat} {rr : String × Nat × String × List Nat} (hr : nd_str[i]? = some rr) (hk : K (.inl (some (.int (nd_b (tx_isw T rr.2.2.2 r))))) h) : nd_M g mX7_isWord d 0 0 [.ref 101, nd_f i] h K := by
  have hlen := nd_str_len hr
  cases r with
  | inr e =>
    obtain ⟨z1, z2, z3, z4⟩ := hZ
    have hk : K (.inl (some (.int (nI 0)))) h := hk
    refine nd_enter hg (by decide) rfl (Nat.le_of_ble_eq_true rfl) (fun X hC => ?_)
    refine nd_aload_n hC dX7_isWord_0 rfl rfl ?_
    refine mo_get_bad hC hw rfl dX7_isWord_1 ?_
    refine nd_v_eq (congrArg Value.int (z1)) ?_
    first | with_reducible refine nd_if_neB hC (tgt := 35) dX7_isWord_4 (by decide) (fun hc => ?_) (fun hc => ?_) | with_reducible refine nd_if_neN hC (tgt := 35) (by omega) dX7_isWord_4 (by decide) (fun hc => ?_) (fun hc => ?_) | refine nd_if_ne hC (tgt := 35) dX7_isWord_4 (by decide) (fun hc => ?_) (fun hc => ?_)
    · refine nd_iconst hC (v := nI 0) (by rfl) dX7_isWord_35 ?_
      refine nd_istore_n hC dX7_isWord_36 (Nat.le_of_ble_eq_true rfl) ?_
      refine nd_iconst hC (v := nI 0) (by rfl) dX7_isWord_37 ?_
      refine nd_istore_n hC dX7_isWord_38 (Nat.le_of_ble_eq_true rfl) ?_
      refine nd_iload_n hC dX7_isWord_39 rfl ?_
      first | with_reducible refine nd_if_eqB hC (tgt := 82) dX7_isWord_40 (by decide) (fun hq => ?_) (fun hq => ?_) | with_reducible refine nd_if_eqN hC (tgt := 82) (by omega) dX7_isWord_40 (by decide) (fun hq => ?_) (fun hq => ?_) | refine nd_if_eq hC (tgt := 82) dX7_isWord_40 (by decide) (fun hq => ?_) (fun hq => ?_)
      · refine nd_iload_n hC dX7_isWord_82 rfl ?_
        refine nd_ireturn hC rfl (by first | rfl | exact nd_b_nar _) (by omega) (by omega) dX7_isWord_83 (hk)
      · omega
    · omega
  | inl x =>
    obtain ⟨f7, f8, f9, f10, f11, f12, f16⟩ := hZ
    have hkl := tx_k_lt T x.2
    have hin : x.2 ≤ T.length := hin
    have hh1 := tx_h_le T hin
    have hh2 := tx_h_ge T x.2
    have h9 := htp.1
    have hk : K (.inl (some (.int (nd_b (tx_w T x.2 rr.2.2.2))))) h := hk
    refine nd_enter hg (by decide) rfl (Nat.le_of_ble_eq_true rfl) (fun X hC => ?_)
    have J39f : ∀ kk, tx_w T x.2 rr.2.2.2 = false → nd_W g mX7_isWord d 0 0 K X 39 [some (.ref 101), some (nd_f i), some (.int (nI 0)), some (.int kk)] [] h 0 0 := by
      intro kk e
      rw [e] at hk
      refine nd_iload_n hC dX7_isWord_39 rfl ?_
      first | with_reducible refine nd_if_eqB hC (tgt := 82) dX7_isWord_40 (by decide) (fun hq => ?_) (fun hq => ?_) | with_reducible refine nd_if_eqN hC (tgt := 82) (by omega) dX7_isWord_40 (by decide) (fun hq => ?_) (fun hq => ?_) | refine nd_if_eq hC (tgt := 82) dX7_isWord_40 (by decide) (fun hq => ?_) (fun hq => ?_)
      · refine nd_iload_n hC dX7_isWord_82 rfl ?_
        refine nd_ireturn hC rfl (by first | rfl | exact nd_b_nar _) (by omega) (by omega) dX7_isWord_83 (hk)
      · omega
    have J35 : tx_w T x.2 rr.2.2.2 = false → nd_W g mX7_isWord d 0 0 K X 35 [some (.ref 101), some (nd_f i), none, none] [] h 0 0 := by
      intro e
      refine nd_iconst hC (v := nI 0) (by rfl) dX7_isWord_35 ?_
      refine nd_istore_n hC dX7_isWord_36 (Nat.le_of_ble_eq_true rfl) ?_
      refine nd_iconst hC (v := nI 0) (by rfl) dX7_isWord_37 ?_
      refine nd_istore_n hC dX7_isWord_38 (Nat.le_of_ble_eq_true rfl) ?_
      exact J39f _ e
    have nw : (¬ (tx_k T x.2 = 1 ∧ tx_h T x.2 - tx_b T x.2 = rr.2.2.2.length ∧ ∀ j, j < rr.2.2.2.length → T.getD (tx_b T x.2 + j) 0 = rr.2.2.2.getD j 0)) → tx_w T x.2 rr.2.2.2 = false := by
      intro q
      cases e : tx_w T x.2 rr.2.2.2 with
      | false => rfl
      | true => exact absurd (tx_w_iff.mp e) q
    refine nd_aload_n hC dX7_isWord_0 rfl rfl ?_
    refine mo_get_bad hC hw rfl dX7_isWord_1 ?_
    refine nd_v_eq (congrArg Value.int (f12)) ?_
    first | with_reducible refine nd_if_neB hC (tgt := 35) dX7_isWord_4 (by decide) (fun hc => ?_) (fun hc => ?_) | with_reducible refine nd_if_neN hC (tgt := 35) (by omega) dX7_isWord_4 (by decide) (fun hc => ?_) (fun hc => ?_) | refine nd_if_ne hC (tgt := 35) dX7_isWord_4 (by decide) (fun hc => ?_) (fun hc => ?_)
    · omega
    · refine nd_aload_n hC dX7_isWord_7 rfl rfl ?_
      refine mo_get_token hC hw rfl dX7_isWord_8 ?_
      refine nd_v_eq (congrArg Value.int (f10)) ?_
      refine nd_iconst hC (v := nI 1) (by rfl) dX7_isWord_11 ?_
      first | with_reducible refine nd_icmp_neN hC (tgt := 35) (by omega) (by omega) dX7_isWord_12 (by decide) (fun hq => ?_) (fun hq => ?_) | refine nd_icmp_ne hC (tgt := 35) dX7_isWord_12 (by decide) (fun hq => ?_) (fun hq => ?_)
      · exact J35 (nw (fun z => hq z.1))
      · refine nd_aload_n hC dX7_isWord_15 rfl rfl ?_
        refine mo_get_head hC hw rfl dX7_isWord_16 ?_
        refine nd_v_eq (congrArg Value.int (f8)) ?_
        refine nd_aload_n hC dX7_isWord_19 rfl rfl ?_
        refine mo_get_begin hC hw rfl dX7_isWord_20 ?_
        refine nd_v_eq (congrArg Value.int (f9)) ?_
        first | with_reducible refine nd_isubN hC (by omega) dX7_isWord_23 ?_ | refine nd_isub hC dX7_isWord_23 ?_
        refine nd_aload_n hC dX7_isWord_24 rfl rfl ?_
        refine nd_callVF (mm2 := mJ7_length) (As := []) (d2 := d - 1) hC hr rfl lkX7_118 lyX7_118 (Nat.le_of_ble_eq_true rfl) (by omega) rfl (by exact Nat.le_of_ble_eq_true rfl) (Nat.zero_le _) (Nat.zero_le _) dX7_isWord_25 rfl ((sq_length hg (by omega) hr ?_))
        first | with_reducible refine nd_icmp_neN hC (tgt := 35) (by omega) (by omega) dX7_isWord_28 (by decide) (fun hl => ?_) (fun hl => ?_) | refine nd_icmp_ne hC (tgt := 35) dX7_isWord_28 (by decide) (fun hl => ?_) (fun hl => ?_)
        · exact J35 (nw (fun z => hl z.2.1))
        · refine nd_iconst hC (v := nI 1) (by rfl) dX7_isWord_31 ?_
          refine nd_goto hC (tgt := 36) dX7_isWord_32 (by decide) ?_
          refine nd_istore_n hC dX7_isWord_36 (Nat.le_of_ble_eq_true rfl) ?_
          refine nd_iconst hC (v := nI 0) (by rfl) dX7_isWord_37 ?_
          refine nd_istore_n hC dX7_isWord_38 (Nat.le_of_ble_eq_true rfl) ?_
          have L : ∀ k, k ≤ rr.2.2.2.length → (∀ j, j < k → T.getD (tx_b T x.2 + j) 0 = rr.2.2.2.getD j 0) → nd_W g mX7_isWord d 0 0 K X 39 [some (.ref 101), some (nd_f i), some (.int (nI 1)), some (.int (nI k))] [] h 0 0 := by
            refine nd_for _ _ ?_ ?_
            · intro hj
              have e : tx_w T x.2 rr.2.2.2 = true := tx_w_iff.mpr ⟨hq, hl, hj⟩
              rw [e] at hk
              refine nd_iload_n hC dX7_isWord_39 rfl ?_
              first | with_reducible refine nd_if_eqB hC (tgt := 82) dX7_isWord_40 (by decide) (fun hz => ?_) (fun hz => ?_) | with_reducible refine nd_if_eqN hC (tgt := 82) (by omega) dX7_isWord_40 (by decide) (fun hz => ?_) (fun hz => ?_) | refine nd_if_eq hC (tgt := 82) dX7_isWord_40 (by decide) (fun hz => ?_) (fun hz => ?_)
              · omega
              · refine nd_iload_n hC dX7_isWord_43 rfl ?_
                refine nd_aload_n hC dX7_isWord_44 rfl rfl ?_
                refine nd_callVF (mm2 := mJ7_length) (As := []) (d2 := d - 1) hC hr rfl lkX7_118 lyX7_118 (Nat.le_of_ble_eq_true rfl) (by omega) rfl (by exact Nat.le_of_ble_eq_true rfl) (Nat.zero_le _) (Nat.zero_le _) dX7_isWord_45 rfl ((sq_length hg (by omega) hr ?_))
                first | with_reducible refine nd_icmp_geN hC (tgt := 82) (by omega) (by omega) dX7_isWord_48 (by decide) (fun hz2 => ?_) (fun hz2 => ?_) | refine nd_icmp_ge hC (tgt := 82) dX7_isWord_48 (by decide) (fun hz2 => ?_) (fun hz2 => ?_)
                · refine nd_iload_n hC dX7_isWord_82 rfl ?_
                  refine nd_ireturn hC rfl (by first | rfl | exact nd_b_nar _) (by omega) (by omega) dX7_isWord_83 (hk)
                · omega
            · intro k hk1 ih hj
              have hbt := htp.2.2 (tx_b T x.2 + k)
              have hbs := nd_str_by hr k
              refine nd_iload_n hC dX7_isWord_39 rfl ?_
              first | with_reducible refine nd_if_eqB hC (tgt := 82) dX7_isWord_40 (by decide) (fun hz => ?_) (fun hz => ?_) | with_reducible refine nd_if_eqN hC (tgt := 82) (by omega) dX7_isWord_40 (by decide) (fun hz => ?_) (fun hz => ?_) | refine nd_if_eq hC (tgt := 82) dX7_isWord_40 (by decide) (fun hz => ?_) (fun hz => ?_)
              · omega
              · refine nd_iload_n hC dX7_isWord_43 rfl ?_
                refine nd_aload_n hC dX7_isWord_44 rfl rfl ?_
                refine nd_callVF (mm2 := mJ7_length) (As := []) (d2 := d - 1) hC hr rfl lkX7_118 lyX7_118 (Nat.le_of_ble_eq_true rfl) (by omega) rfl (by exact Nat.le_of_ble_eq_true rfl) (Nat.zero_le _) (Nat.zero_le _) dX7_isWord_45 rfl ((sq_length hg (by omega) hr ?_))
                first | with_reducible refine nd_icmp_geN hC (tgt := 82) (by omega) (by omega) dX7_isWord_48 (by decide) (fun hz2 => ?_) (fun hz2 => ?_) | refine nd_icmp_ge hC (tgt := 82) dX7_isWord_48 (by decide) (fun hz2 => ?_) (fun hz2 => ?_)
                · omega
                · refine nd_aload_n hC dX7_isWord_51 rfl rfl ?_
                  refine mo_get_tape hC hw rfl dX7_isWord_52 ?_
                  refine nd_aload_n hC dX7_isWord_55 rfl rfl ?_
                  refine mo_get_begin hC hw rfl dX7_isWord_56 ?_
                  refine nd_v_eq (congrArg Value.int (f9)) ?_
                  refine nd_iload_n hC dX7_isWord_59 rfl ?_
                  first | with_reducible refine nd_iaddN hC dX7_isWord_60 ?_ | refine nd_iadd hC dX7_isWord_60 ?_
                  refine nd_ialoadN hC hw.tape (by omega) (by decide) dX7_isWord_61 ?_
                  refine nd_v_eq (congrArg Value.int (htp.2.1 (tx_b T x.2 + k) (by omega))) ?_
                  refine nd_aload_n hC dX7_isWord_62 rfl rfl ?_
                  refine nd_iload_n hC dX7_isWord_63 rfl ?_
                  refine nd_callVF (mm2 := mJ7_charAt) (As := [_]) (d2 := d - 1) hC hr rfl lkX7_123 lyX7_123 (Nat.le_of_ble_eq_true rfl) (by omega) rfl (by exact Nat.le_of_ble_eq_true rfl) (Nat.zero_le _) (Nat.zero_le _) dX7_isWord_64 rfl ((sq_charAt hg (by omega) hr hk1 ?_))
                  first | with_reducible refine nd_icmp_neN hC (tgt := 74) (by omega) (by omega) dX7_isWord_67 (by decide) (fun hm => ?_) (fun hm => ?_) | refine nd_icmp_ne hC (tgt := 74) dX7_isWord_67 (by decide) (fun hm => ?_) (fun hm => ?_)
                  · refine nd_iconst hC (v := nI 0) (by rfl) dX7_isWord_74 ?_
                    refine nd_istore_n hC dX7_isWord_75 (Nat.le_of_ble_eq_true rfl) ?_
                    first | with_reducible refine nd_iincN hC dX7_isWord_76 rfl (Nat.le_of_ble_eq_true rfl) ?_ | refine nd_iinc hC dX7_isWord_76 rfl rfl (Nat.le_of_ble_eq_true rfl) ?_
                    refine nd_goto hC (tgt := 39) dX7_isWord_79 (by decide) ?_
                    exact J39f _ (nw (fun z => hm (z.2.2 k hk1)))
                  · refine nd_iconst hC (v := nI 1) (by rfl) dX7_isWord_70 ?_
                    refine nd_goto hC (tgt := 75) dX7_isWord_71 (by decide) ?_
                    refine nd_istore_n hC dX7_isWord_75 (Nat.le_of_ble_eq_true rfl) ?_
                    first | with_reducible refine nd_iincN hC dX7_isWord_76 rfl (Nat.le_of_ble_eq_true rfl) ?_ | refine nd_iinc hC dX7_isWord_76 rfl rfl (Nat.le_of_ble_eq_true rfl) ?_
                    refine nd_goto hC (tgt := 39) dX7_isWord_79 (by decide) ?_
                    refine ih (fun j hj2 => ?_)
                    by_cases e : j = k
                    · subst e; exact hm
                    · exact hj j (by omega)
          exact L 0 (Nat.zero_le _) (fun j hj => absurd hj (Nat.not_lt_zero _))
theorem sr_took (hg : nd_OK g) (hd : 5 ≤ d) (hw : mo_W h0 A F B h) (htp : tx_tp A T) (hin : tx_in T r) (hZ : tx_Z T dp r F) {i : Nat} {rr : String × Nat × String × List Nat} (hr : nd_str[i]? = some rr) (hk : ∀ F2 h2, mo_W h0 A F2 B h2 → tx_y F F2 → tx_Z T dp (if tx_isw T rr.2.2.2 r = true then tx_bind r (tx_on T) else r) F2 → K (.inl (some (.int (nd_b (tx_isw T rr.2.2.2 r))))) h2) : nd_M g mX7_took d 0 0 [.ref 101, nd_f i] h K := by
  refine nd_enter hg (by decide) rfl (Nat.le_of_ble_eq_true rfl) (fun X hC => ?_)
  refine nd_aload_n hC dX7_took_0 rfl rfl ?_
  refine nd_aload_n hC dX7_took_1 rfl rfl ?_
  refine mo_callV (As := [_]) (d2 := d - 1) hC hw rfl lkX7_127 lyX7_127 (Nat.le_of_ble_eq_true rfl) (by omega) rfl (by exact Nat.le_of_ble_eq_true rfl) (Nat.zero_le _) (Nat.zero_le _) dX7_took_2 rfl ((sr_isWord hg (by omega) hw htp hin hZ hr ?_))
  refine nd_istore_n hC dX7_took_5 (Nat.le_of_ble_eq_true rfl) ?_
  refine nd_iload_n hC dX7_took_6 rfl ?_
  first | with_reducible refine nd_if_eqB hC (tgt := 14) dX7_took_7 (by decide) (fun hc => ?_) (fun hc => ?_) | with_reducible refine nd_if_eqN hC (tgt := 14) (by omega) dX7_took_7 (by decide) (fun hc => ?_) (fun hc => ?_) | refine nd_if_eq hC (tgt := 14) dX7_took_7 (by decide) (fun hc => ?_) (fun hc => ?_)
  · rw [hc] at hk ⊢
    rw [if_neg (by decide)] at hk
    refine nd_iload_n hC dX7_took_14 rfl ?_
    refine nd_ireturn hC rfl (by first | rfl | exact nd_b_nar _) (by omega) (by omega) dX7_took_15 ((hk F h hw tx_y.rfl hZ))
  · rw [hc] at hk ⊢
    rw [if_pos rfl] at hk
    cases r with
    | inr e => exact absurd (show false = true from hc) (by decide)
    | inl x =>
      obtain ⟨f7, f8, f9, f10, f11, f12, f16⟩ := hZ
      have hin : x.2 ≤ T.length := hin
      refine nd_aload_n hC dX7_took_10 rfl rfl ?_
      refine mo_callV (As := []) (d2 := d - 1) hC hw rfl lkX7_131 lyX7_131 (Nat.le_of_ble_eq_true rfl) (by omega) rfl (by exact Nat.le_of_ble_eq_true rfl) (Nat.zero_le _) (Nat.zero_le _) dX7_took_11 rfl ((sr_on hg (by omega) hw htp (tx_h_le T hin) f7 f8 f12 f16 (fun F2 h2 hw fr hF => ?_)))
      refine nd_iload_n hC dX7_took_14 rfl ?_
      refine nd_ireturn hC rfl (by first | rfl | exact nd_b_nar _) (by omega) (by omega) dX7_took_15 ((hk F2 h2 hw (tx_y.on fr) hF))
theorem sr_mustSign (hg : nd_OK g) (hd : 2 ≤ d) (hw : mo_W h0 A F B h) (htp : tx_tp A T) (hin : tx_in T r) (hZ : tx_Z T dp r F) {c : Nat} (hc9 : c < 256) (hk : ∀ F2 h2, mo_W h0 A F2 B h2 → tx_y F F2 → tx_Z T dp (tx_bind r (tx_must T c)) F2 → K (.inl none) h2) : nd_M g mX7_mustSign d 0 0 [.ref 101, .int (nI c)] h K := by
  refine nd_enter hg (by decide) rfl (Nat.le_of_ble_eq_true rfl) (fun X hC => ?_)
  have J13 : ∀ F1 h e, mo_W h0 A F1 B h → tx_y F F1 → tx_Z T dp (.inr e) F1 → tx_bind r (tx_must T c) = .inr e → nd_W g mX7_mustSign d 0 0 K X 13 [some (.ref 101), some (.int (nI c))] [] h 0 0 := by
    intro F1 h e hw fr hZ1 er
    obtain ⟨z1, z2, z3, z4⟩ := hZ1
    rw [er] at hk
    refine nd_aload_n hC dX7_mustSign_13 rfl rfl ?_
    refine mo_get_bad hC hw rfl dX7_mustSign_14 ?_
    refine nd_v_eq (congrArg Value.int (z1)) ?_
    first | with_reducible refine nd_if_neB hC (tgt := 24) dX7_mustSign_17 (by decide) (fun hq => ?_) (fun hq => ?_) | with_reducible refine nd_if_neN hC (tgt := 24) (by omega) dX7_mustSign_17 (by decide) (fun hq => ?_) (fun hq => ?_) | refine nd_if_ne hC (tgt := 24) dX7_mustSign_17 (by decide) (fun hq => ?_) (fun hq => ?_)
    · refine nd_return hC rfl (by omega) (by omega) dX7_mustSign_24 ((hk F1 h hw fr ⟨z1, z2, z3, z4⟩))
    · omega
  cases r with
  | inr e =>
    have hZ2 := hZ
    obtain ⟨z1, z2, z3, z4⟩ := hZ
    refine nd_aload_n hC dX7_mustSign_0 rfl rfl ?_
    refine mo_get_token hC hw rfl dX7_mustSign_1 ?_
    refine nd_iload_n hC dX7_mustSign_4 rfl ?_
    first | with_reducible refine nd_icmp_eqN hC (tgt := 13) (by omega) (by omega) dX7_mustSign_5 (by decide) (fun hc => ?_) (fun hc => ?_) | refine nd_icmp_eq hC (tgt := 13) dX7_mustSign_5 (by decide) (fun hc => ?_) (fun hc => ?_)
    · exact J13 F h e hw tx_y.rfl hZ2 rfl
    · refine nd_aload_n hC dX7_mustSign_8 rfl rfl ?_
      refine nd_iconst hC (v := nI 2) (by rfl) dX7_mustSign_9 ?_
      refine mo_callV (As := [_]) (d2 := d - 1) hC hw rfl lkX7_134 lyX7_134 (Nat.le_of_ble_eq_true rfl) (by omega) rfl (by exact Nat.le_of_ble_eq_true rfl) (Nat.zero_le _) (Nat.zero_le _) dX7_mustSign_10 rfl ((sr_blames hg hw hZ2 (by omega) (by omega) (fun F2 h2 hw fr hZ => ?_)))
      exact J13 F2 h2 e hw fr hZ rfl
  | inl x =>
    have hZ2 := hZ
    obtain ⟨f7, f8, f9, f10, f11, f12, f16⟩ := hZ
    have hkl := tx_k_lt T x.2
    have hin : x.2 ≤ T.length := hin
    have em : tx_bind (.inl x) (tx_must T c) = if tx_k T x.2 = c then .inl (x.1, tx_h T x.2) else .inr (tx_e T x.2 2) := by
      by_cases q : tx_k T x.2 = c
      · rw [if_pos q, ← tx_bind_on]; exact tx_bind_g (by unfold tx_must; rw [if_pos q]; rfl)
      · rw [if_neg q]; exact tx_bind_ce (by unfold tx_must; rw [if_neg q])
    refine nd_aload_n hC dX7_mustSign_0 rfl rfl ?_
    refine mo_get_token hC hw rfl dX7_mustSign_1 ?_
    refine nd_v_eq (congrArg Value.int (f10)) ?_
    refine nd_iload_n hC dX7_mustSign_4 rfl ?_
    first | with_reducible refine nd_icmp_eqN hC (tgt := 13) (by omega) (by omega) dX7_mustSign_5 (by decide) (fun hc => ?_) (fun hc => ?_) | refine nd_icmp_eq hC (tgt := 13) dX7_mustSign_5 (by decide) (fun hc => ?_) (fun hc => ?_)
    · rw [em, if_pos hc] at hk
      refine nd_aload_n hC dX7_mustSign_13 rfl rfl ?_
      refine mo_get_bad hC hw rfl dX7_mustSign_14 ?_
      refine nd_v_eq (congrArg Value.int (f12)) ?_
      first | with_reducible refine nd_if_neB hC (tgt := 24) dX7_mustSign_17 (by decide) (fun hq => ?_) (fun hq => ?_) | with_reducible refine nd_if_neN hC (tgt := 24) (by omega) dX7_mustSign_17 (by decide) (fun hq => ?_) (fun hq => ?_) | refine nd_if_ne hC (tgt := 24) dX7_mustSign_17 (by decide) (fun hq => ?_) (fun hq => ?_)
      · exact absurd rfl hq
      · refine nd_aload_n hC dX7_mustSign_20 rfl rfl ?_
        refine mo_callV (As := []) (d2 := d - 1) hC hw rfl lkX7_131 lyX7_131 (Nat.le_of_ble_eq_true rfl) (by omega) rfl (by exact Nat.le_of_ble_eq_true rfl) (Nat.zero_le _) (Nat.zero_le _) dX7_mustSign_21 rfl ((sr_on hg (by omega) hw htp (tx_h_le T hin) f7 f8 f12 f16 (fun F2 h2 hw fr hF => ?_)))
        refine nd_return hC rfl (by omega) (by omega) dX7_mustSign_24 ((hk F2 h2 hw (tx_y.on fr) hF))
    · refine nd_aload_n hC dX7_mustSign_8 rfl rfl ?_
      refine nd_iconst hC (v := nI 2) (by rfl) dX7_mustSign_9 ?_
      refine mo_callV (As := [_]) (d2 := d - 1) hC hw rfl lkX7_134 lyX7_134 (Nat.le_of_ble_eq_true rfl) (by omega) rfl (by exact Nat.le_of_ble_eq_true rfl) (Nat.zero_le _) (Nat.zero_le _) dX7_mustSign_10 rfl ((sr_blames hg hw hZ2 (by omega) (by omega) (fun F2 h2 hw fr hZ => ?_)))
      exact J13 F2 h2 _ hw fr hZ (by rw [em, if_neg hc]; rfl)
theorem sr_mustWord (hg : nd_OK g) (hd : 6 ≤ d) (hw : mo_W h0 A F B h) (htp : tx_tp A T) (hin : tx_in T r) (hZ : tx_Z T dp r F) {i : Nat} {rr : String × Nat × String × List Nat} (hr : nd_str[i]? = some rr) (hk : ∀ F2 h2, mo_W h0 A F2 B h2 → tx_y F F2 → tx_Z T dp (tx_bind r (tx_mw T rr.2.2.2)) F2 → K (.inl none) h2) : nd_M g mX7_mustWord d 0 0 [.ref 101, nd_f i] h K := by
  have em : tx_bind r (tx_mw T rr.2.2.2) = if tx_isw T rr.2.2.2 r = true then tx_bind r (tx_on T) else .inr (tx_bl T 2 r) := by
    cases r with
    | inr e => rfl
    | inl x =>
      by_cases c : tx_w T x.2 rr.2.2.2 = true
      · rw [if_pos (show tx_isw T rr.2.2.2 (.inl x) = true from c)]; exact tx_bind_g (by unfold tx_mw; rw [if_pos c]; rfl)
      · rw [if_neg (show ¬ tx_isw T rr.2.2.2 (.inl x) = true from c)]; exact tx_bind_ce (by unfold tx_mw; rw [if_neg c]; rfl)
  refine nd_enter hg (by decide) rfl (Nat.le_of_ble_eq_true rfl) (fun X hC => ?_)
  refine nd_aload_n hC dX7_mustWord_0 rfl rfl ?_
  refine nd_aload_n hC dX7_mustWord_1 rfl rfl ?_
  refine mo_callV (As := [_]) (d2 := d - 1) hC hw rfl lkX7_142 lyX7_142 (Nat.le_of_ble_eq_true rfl) (by omega) rfl (by exact Nat.le_of_ble_eq_true rfl) (Nat.zero_le _) (Nat.zero_le _) dX7_mustWord_2 rfl ((sr_took hg (by omega) hw htp hin hZ hr (fun F2 h2 hw fr hZ => ?_)))
  first | with_reducible refine nd_if_neB hC (tgt := 13) dX7_mustWord_5 (by decide) (fun hc => ?_) (fun hc => ?_) | with_reducible refine nd_if_neN hC (tgt := 13) (by omega) dX7_mustWord_5 (by decide) (fun hc => ?_) (fun hc => ?_) | refine nd_if_ne hC (tgt := 13) dX7_mustWord_5 (by decide) (fun hc => ?_) (fun hc => ?_)
  · rw [hc, if_pos rfl] at hZ
    rw [em, hc, if_pos rfl] at hk
    refine nd_return hC rfl (by omega) (by omega) dX7_mustWord_13 ((hk F2 h2 hw fr hZ))
  · rw [hc, if_neg (by decide)] at hZ
    rw [em, hc, if_neg (by decide)] at hk
    refine nd_aload_n hC dX7_mustWord_8 rfl rfl ?_
    refine nd_iconst hC (v := nI 2) (by rfl) dX7_mustWord_9 ?_
    refine mo_callV (As := [_]) (d2 := d - 1) hC hw rfl lkX7_134 lyX7_134 (Nat.le_of_ble_eq_true rfl) (by omega) rfl (by exact Nat.le_of_ble_eq_true rfl) (Nat.zero_le _) (Nat.zero_le _) dX7_mustWord_10 rfl ((sr_blames hg hw hZ (by omega) (by omega) (fun F3 h3 hw fr3 hZ => ?_)))
    refine nd_return hC rfl (by omega) (by omega) dX7_mustWord_13 ((hk F3 h3 hw (fr.trans fr3) hZ))
theorem sr_number (hg : nd_OK g) (hd : 2 ≤ d) (hw : mo_W h0 A F B h) (htp : tx_tp A T) (hin : tx_in T r) (hZ : tx_Z T dp r F) {hi : Nat} (hhi : hi < 1000) (hk : ∀ v F2 h2, mo_W h0 A F2 B h2 → tx_y F F2 → tx_Z T dp (tx_bind r (tx_num T hi)) F2 → (∀ x y, r = .inl x → tx_num T hi x.2 = .inl y → v = nI (tx_v T x.2)) → K (.inl (some (.int v))) h2) : nd_M g mX7_number d 0 0 [.ref 101, .int (nI 0), .int (nI hi)] h K := by
  refine nd_enter hg (by decide) rfl (Nat.le_of_ble_eq_true rfl) (fun X hC => ?_)
  have J36 : ∀ F1 h e, mo_W h0 A F1 B h → tx_y F F1 → tx_Z T dp (.inr e) F1 → tx_bind r (tx_num T hi) = .inr e → nd_W g mX7_number d 0 0 K X 36 [some (.ref 101), some (.int (nI 0)), some (.int (nI hi)), none] [] h 0 0 := by
    intro F1 h e hw fr hZ1 er
    have er2 : ∀ x y, r = .inl x → tx_num T hi x.2 = .inl y → nI 0 = nI (tx_v T x.2) := by
      intro x y e1 e2
      rw [e1] at er
      have er : (match tx_num T hi x.2 with
        | .inl y => (.inl (x.1 ++ y.1, y.2) : tx_R)
        | .inr e => .inr e) = .inr e := er
      rw [e2] at er
      cases er
    obtain ⟨z1, z2, z3, z4⟩ := hZ1
    refine nd_aload_n hC dX7_number_36 rfl rfl ?_
    refine mo_get_value hC hw rfl dX7_number_37 ?_
    refine nd_istore_n hC dX7_number_40 (Nat.le_of_ble_eq_true rfl) ?_
    refine nd_aload_n hC dX7_number_41 rfl rfl ?_
    refine mo_get_bad hC hw rfl dX7_number_42 ?_
    refine nd_v_eq (congrArg Value.int (z1)) ?_
    first | with_reducible refine nd_if_neB hC (tgt := 52) dX7_number_45 (by decide) (fun hq => ?_) (fun hq => ?_) | with_reducible refine nd_if_neN hC (tgt := 52) (by omega) dX7_number_45 (by decide) (fun hq => ?_) (fun hq => ?_) | refine nd_if_ne hC (tgt := 52) dX7_number_45 (by decide) (fun hq => ?_) (fun hq => ?_)
    · refine nd_aload_n hC dX7_number_52 rfl rfl ?_
      refine mo_get_bad hC hw rfl dX7_number_53 ?_
      refine nd_v_eq (congrArg Value.int (z1)) ?_
      first | with_reducible refine nd_if_neB hC (tgt := 63) dX7_number_56 (by decide) (fun hq2 => ?_) (fun hq2 => ?_) | with_reducible refine nd_if_neN hC (tgt := 63) (by omega) dX7_number_56 (by decide) (fun hq2 => ?_) (fun hq2 => ?_) | refine nd_if_ne hC (tgt := 63) dX7_number_56 (by decide) (fun hq2 => ?_) (fun hq2 => ?_)
      · refine nd_iload_n hC dX7_number_63 rfl ?_
        refine nd_ireturn hC rfl (by first | rfl | exact nd_b_nar _) (by omega) (by omega) dX7_number_64 ((hk _ F1 h hw fr (by rw [er]; exact ⟨z1, z2, z3, z4⟩) er2))
      · omega
    · omega
  cases r with
  | inr e =>
    have hZ2 := hZ
    obtain ⟨z1, z2, z3, z4⟩ := hZ
    refine nd_aload_n hC dX7_number_0 rfl rfl ?_
    refine mo_get_token hC hw rfl dX7_number_1 ?_
    refine nd_iconst hC (v := nI 2) (by rfl) dX7_number_4 ?_
    first | with_reducible refine nd_icmp_eqN hC (tgt := 16) (by omega) (by omega) dX7_number_5 (by decide) (fun hc => ?_) (fun hc => ?_) | refine nd_icmp_eq hC (tgt := 16) dX7_number_5 (by decide) (fun hc => ?_) (fun hc => ?_)
    · refine nd_aload_n hC dX7_number_16 rfl rfl ?_
      refine mo_get_value hC hw rfl dX7_number_17 ?_
      first | with_reducible refine nd_i2lN hC (by omega) dX7_number_20 ?_ | refine nd_i2l hC dX7_number_20 ?_
      refine nd_iload_n hC dX7_number_21 rfl ?_
      first | with_reducible refine nd_i2lN hC (by omega) dX7_number_22 ?_ | refine nd_i2l hC dX7_number_22 ?_
      refine nd_iload_n hC dX7_number_23 rfl ?_
      first | with_reducible refine nd_i2lN hC (by omega) dX7_number_24 ?_ | refine nd_i2l hC dX7_number_24 ?_
      refine mo_callS (As := [_, _, _]) (d2 := d - 1) hC rfl lkX7_138 lyX7_138 (Nat.le_of_ble_eq_true rfl) (by omega) rfl (by exact Nat.le_of_ble_eq_true rfl) (Nat.zero_le _) (Nat.zero_le _) dX7_number_25 rfl ((sp_within hg ?_))
      first | with_reducible refine nd_if_neB hC (tgt := 36) dX7_number_28 (by decide) (fun hb => ?_) (fun hb => ?_) | with_reducible refine nd_if_neN hC (tgt := 36) (by omega) dX7_number_28 (by decide) (fun hb => ?_) (fun hb => ?_) | refine nd_if_ne hC (tgt := 36) dX7_number_28 (by decide) (fun hb => ?_) (fun hb => ?_)
      · exact J36 F h e hw tx_y.rfl hZ2 rfl
      · refine nd_aload_n hC dX7_number_31 rfl rfl ?_
        refine nd_iconst hC (v := nI 3) (by rfl) dX7_number_32 ?_
        refine mo_callV (As := [_]) (d2 := d - 1) hC hw rfl lkX7_134 lyX7_134 (Nat.le_of_ble_eq_true rfl) (by omega) rfl (by exact Nat.le_of_ble_eq_true rfl) (Nat.zero_le _) (Nat.zero_le _) dX7_number_33 rfl ((sr_blames hg hw hZ2 (by omega) (by omega) (fun F2 h2 hw fr hZ => ?_)))
        exact J36 F2 h2 e hw fr hZ rfl
    · refine nd_aload_n hC dX7_number_8 rfl rfl ?_
      refine nd_iconst hC (v := nI 2) (by rfl) dX7_number_9 ?_
      refine mo_callV (As := [_]) (d2 := d - 1) hC hw rfl lkX7_134 lyX7_134 (Nat.le_of_ble_eq_true rfl) (by omega) rfl (by exact Nat.le_of_ble_eq_true rfl) (Nat.zero_le _) (Nat.zero_le _) dX7_number_10 rfl ((sr_blames hg hw hZ2 (by omega) (by omega) (fun F2 h2 hw fr hZ => ?_)))
      refine nd_goto hC (tgt := 36) dX7_number_13 (by decide) ?_
      exact J36 F2 h2 e hw fr hZ rfl
  | inl x =>
    have hZ2 := hZ
    obtain ⟨f7, f8, f9, f10, f11, f12, f16⟩ := hZ
    have hkl := tx_k_lt T x.2
    have hin : x.2 ≤ T.length := hin
    refine nd_aload_n hC dX7_number_0 rfl rfl ?_
    refine mo_get_token hC hw rfl dX7_number_1 ?_
    refine nd_v_eq (congrArg Value.int (f10)) ?_
    refine nd_iconst hC (v := nI 2) (by rfl) dX7_number_4 ?_
    first | with_reducible refine nd_icmp_eqN hC (tgt := 16) (by omega) (by omega) dX7_number_5 (by decide) (fun hc => ?_) (fun hc => ?_) | refine nd_icmp_eq hC (tgt := 16) dX7_number_5 (by decide) (fun hc => ?_) (fun hc => ?_)
    · have hv := (tx_v_lt T x.2 hc).1
      have f11 := f11 hc
      refine nd_aload_n hC dX7_number_16 rfl rfl ?_
      refine mo_get_value hC hw rfl dX7_number_17 ?_
      refine nd_v_eq (congrArg Value.int (f11)) ?_
      first | with_reducible refine nd_i2lN hC (by omega) dX7_number_20 ?_ | refine nd_i2l hC dX7_number_20 ?_
      refine nd_iload_n hC dX7_number_21 rfl ?_
      first | with_reducible refine nd_i2lN hC (by omega) dX7_number_22 ?_ | refine nd_i2l hC dX7_number_22 ?_
      refine nd_iload_n hC dX7_number_23 rfl ?_
      first | with_reducible refine nd_i2lN hC (by omega) dX7_number_24 ?_ | refine nd_i2l hC dX7_number_24 ?_
      refine mo_callS (As := [_, _, _]) (d2 := d - 1) hC rfl lkX7_138 lyX7_138 (Nat.le_of_ble_eq_true rfl) (by omega) rfl (by exact Nat.le_of_ble_eq_true rfl) (Nat.zero_le _) (Nat.zero_le _) dX7_number_25 rfl ((sp_within hg ?_))
      have ew : (decide (lN 0 ≤ lN (tx_v T x.2)) && decide (lN (tx_v T x.2) ≤ lN hi)) = decide (tx_v T x.2 ≤ hi) := by
        rw [Bool.eq_iff_iff, Bool.and_eq_true, nd_lle, nd_lle, lN_toInt (by omega), lN_toInt (by omega), lN_toInt (by omega), decide_eq_true_iff]
        omega
      rw [ew]
      first | with_reducible refine nd_if_neB hC (tgt := 36) dX7_number_28 (by decide) (fun hb => ?_) (fun hb => ?_) | with_reducible refine nd_if_neN hC (tgt := 36) (by omega) dX7_number_28 (by decide) (fun hb => ?_) (fun hb => ?_) | refine nd_if_ne hC (tgt := 36) dX7_number_28 (by decide) (fun hb => ?_) (fun hb => ?_)
      · have hb := of_decide_eq_true hb
        have em : tx_bind (.inl x) (tx_num T hi) = .inl (x.1 ++ [tx_v T x.2], tx_h T x.2) := by
          show (match tx_num T hi x.2 with
            | .inl y => (.inl (x.1 ++ y.1, y.2) : tx_R)
            | .inr e => .inr e) = _
          unfold tx_num
          rw [if_pos hc, if_pos hb]
        refine nd_aload_n hC dX7_number_36 rfl rfl ?_
        refine mo_get_value hC hw rfl dX7_number_37 ?_
        refine nd_v_eq (congrArg Value.int (f11)) ?_
        refine nd_istore_n hC dX7_number_40 (Nat.le_of_ble_eq_true rfl) ?_
        refine nd_aload_n hC dX7_number_41 rfl rfl ?_
        refine mo_get_bad hC hw rfl dX7_number_42 ?_
        refine nd_v_eq (congrArg Value.int (f12)) ?_
        first | with_reducible refine nd_if_neB hC (tgt := 52) dX7_number_45 (by decide) (fun hq => ?_) (fun hq => ?_) | with_reducible refine nd_if_neN hC (tgt := 52) (by omega) dX7_number_45 (by decide) (fun hq => ?_) (fun hq => ?_) | refine nd_if_ne hC (tgt := 52) dX7_number_45 (by decide) (fun hq => ?_) (fun hq => ?_)
        · exact absurd rfl hq
        · refine nd_aload_n hC dX7_number_48 rfl rfl ?_
          refine mo_callV (As := []) (d2 := d - 1) hC hw rfl lkX7_131 lyX7_131 (Nat.le_of_ble_eq_true rfl) (by omega) rfl (by exact Nat.le_of_ble_eq_true rfl) (Nat.zero_le _) (Nat.zero_le _) dX7_number_49 rfl ((sr_on hg (by omega) hw htp (tx_h_le T hin) f7 f8 f12 f16 (fun F2 h2 hw fr hF => ?_)))
          refine nd_aload_n hC dX7_number_52 rfl rfl ?_
          refine mo_get_bad hC hw rfl dX7_number_53 ?_
          refine nd_v_eq (congrArg Value.int (hF.2.2.2.2.2.1)) ?_
          first | with_reducible refine nd_if_neB hC (tgt := 63) dX7_number_56 (by decide) (fun hq2 => ?_) (fun hq2 => ?_) | with_reducible refine nd_if_neN hC (tgt := 63) (by omega) dX7_number_56 (by decide) (fun hq2 => ?_) (fun hq2 => ?_) | refine nd_if_ne hC (tgt := 63) dX7_number_56 (by decide) (fun hq2 => ?_) (fun hq2 => ?_)
          · exact absurd rfl hq2
          · refine nd_iload_n hC dX7_number_59 rfl ?_
            refine nd_goto hC (tgt := 64) dX7_number_60 (by decide) ?_
            refine nd_ireturn hC rfl (by first | rfl | exact nd_b_nar _) (by omega) (by omega) dX7_number_64 ((hk _ F2 h2 hw (tx_y.on fr) (by rw [em]; exact hF) (fun x2 y e1 e2 => by cases e1; rfl)))
      · have hb := of_decide_eq_false hb
        have em : tx_bind (.inl x) (tx_num T hi) = .inr (tx_bl T 3 (.inl x)) := by
          show (match tx_num T hi x.2 with
            | .inl y => (.inl (x.1 ++ y.1, y.2) : tx_R)
            | .inr e => .inr e) = .inr (if tx_k T x.2 = 3 then 1 else 3, tx_b T x.2)
          unfold tx_num
          rw [if_pos hc, if_neg hb, if_neg (by omega)]
        refine nd_aload_n hC dX7_number_31 rfl rfl ?_
        refine nd_iconst hC (v := nI 3) (by rfl) dX7_number_32 ?_
        refine mo_callV (As := [_]) (d2 := d - 1) hC hw rfl lkX7_134 lyX7_134 (Nat.le_of_ble_eq_true rfl) (by omega) rfl (by exact Nat.le_of_ble_eq_true rfl) (Nat.zero_le _) (Nat.zero_le _) dX7_number_33 rfl ((sr_blames hg hw hZ2 (by omega) (by omega) (fun F2 h2 hw fr hZ => ?_)))
        exact J36 F2 h2 _ hw fr hZ em
    · have em : tx_bind (.inl x) (tx_num T hi) = .inr (tx_bl T 2 (.inl x)) := by
        show (match tx_num T hi x.2 with
          | .inl y => (.inl (x.1 ++ y.1, y.2) : tx_R)
          | .inr e => .inr e) = .inr (tx_e T x.2 2)
        unfold tx_num
        rw [if_neg hc]
      refine nd_aload_n hC dX7_number_8 rfl rfl ?_
      refine nd_iconst hC (v := nI 2) (by rfl) dX7_number_9 ?_
      refine mo_callV (As := [_]) (d2 := d - 1) hC hw rfl lkX7_134 lyX7_134 (Nat.le_of_ble_eq_true rfl) (by omega) rfl (by exact Nat.le_of_ble_eq_true rfl) (Nat.zero_le _) (Nat.zero_le _) dX7_number_10 rfl ((sr_blames hg hw hZ2 (by omega) (by omega) (fun F2 h2 hw fr hZ => ?_)))
      refine nd_goto hC (tgt := 36) dX7_number_13 (by decide) ?_
      exact J36 F2 h2 _ hw fr hZ em
/-- one deeper -/
def tx_go (T : List Nat) (dp p : Nat) : tx_R := if dp = 6 then .inr (tx_e T p 4) else tx_on T p
theorem sr_goesIn (hg : nd_OK g) (hd : 2 ≤ d) (hw : mo_W h0 A F B h) (htp : tx_tp A T) (hin : tx_in T r) (hdp : dp ≤ 6) (hZ : tx_Z T dp r F) (hk : ∀ F2 h2, mo_W h0 A F2 B h2 → tx_y F F2 → tx_Z T (dp + 1) (tx_bind r (tx_go T dp)) F2 → K (.inl none) h2) : nd_M g mX7_goesIn d 0 0 [.ref 101] h K := by
  refine nd_enter hg (by decide) rfl (Nat.le_of_ble_eq_true rfl) (fun X hC => ?_)
  have J14 : ∀ F1 h e, mo_W h0 A F1 B h → tx_y F F1 → tx_Z T dp (.inr e) F1 → tx_bind r (tx_go T dp) = .inr e → nd_W g mX7_goesIn d 0 0 K X 14 [some (.ref 101)] [] h 0 0 := by
    intro F1 h e hw fr hZ1 er
    obtain ⟨z1, z2, z3, z4⟩ := hZ1
    rw [er] at hk
    refine nd_aload_n hC dX7_goesIn_14 rfl rfl ?_
    refine nd_dup hC (by rfl) dX7_goesIn_15 ?_
    refine mo_get_deep hC hw rfl dX7_goesIn_16 ?_
    refine nd_iconst hC (v := nI 1) (by rfl) dX7_goesIn_19 ?_
    first | with_reducible refine nd_iaddN hC dX7_goesIn_20 ?_ | refine nd_iadd hC dX7_goesIn_20 ?_
    refine mo_put_deep hC hw rfl dX7_goesIn_21 (fun h hw => ?_)
    refine nd_aload_n hC dX7_goesIn_24 rfl rfl ?_
    refine mo_get_bad hC hw rfl dX7_goesIn_25 ?_
    refine nd_v_eq (congrArg Value.int (z1)) ?_
    first | with_reducible refine nd_if_neB hC (tgt := 35) dX7_goesIn_28 (by decide) (fun hq => ?_) (fun hq => ?_) | with_reducible refine nd_if_neN hC (tgt := 35) (by omega) dX7_goesIn_28 (by decide) (fun hq => ?_) (fun hq => ?_) | refine nd_if_ne hC (tgt := 35) dX7_goesIn_28 (by decide) (fun hq => ?_) (fun hq => ?_)
    · refine nd_return hC rfl (by omega) (by omega) dX7_goesIn_35 ((hk _ h hw (fr.up (by omega)) ⟨z1, z2, z3, z4⟩))
    · omega
  cases r with
  | inr e =>
    have hZ2 := hZ
    refine nd_aload_n hC dX7_goesIn_0 rfl rfl ?_
    refine mo_get_deep hC hw rfl dX7_goesIn_1 ?_
    refine nd_bipush hC (v := nI 6) (by rfl) dX7_goesIn_4 ?_
    first | with_reducible refine nd_icmp_neN hC (tgt := 14) (by omega) (by omega) dX7_goesIn_6 (by decide) (fun hc => ?_) (fun hc => ?_) | refine nd_icmp_ne hC (tgt := 14) dX7_goesIn_6 (by decide) (fun hc => ?_) (fun hc => ?_)
    · exact J14 F h e hw tx_y.rfl hZ2 rfl
    · refine nd_aload_n hC dX7_goesIn_9 rfl rfl ?_
      refine nd_iconst hC (v := nI 4) (by rfl) dX7_goesIn_10 ?_
      refine mo_callV (As := [_]) (d2 := d - 1) hC hw rfl lkX7_134 lyX7_134 (Nat.le_of_ble_eq_true rfl) (by omega) rfl (by exact Nat.le_of_ble_eq_true rfl) (Nat.zero_le _) (Nat.zero_le _) dX7_goesIn_11 rfl ((sr_blames hg hw hZ2 (by omega) (by omega) (fun F2 h2 hw fr hZ => ?_)))
      exact J14 F2 h2 e hw fr hZ rfl
  | inl x =>
    have hZ2 := hZ
    obtain ⟨f7, f8, f9, f10, f11, f12, f16⟩ := hZ
    have hin : x.2 ≤ T.length := hin
    have em : tx_bind (.inl x) (tx_go T dp) = if dp = 6 then .inr (tx_e T x.2 4) else .inl (x.1, tx_h T x.2) := by
      by_cases q : dp = 6
      · rw [if_pos q]; exact tx_bind_ce (by unfold tx_go; rw [if_pos q])
      · rw [if_neg q, ← tx_bind_on]; exact tx_bind_g (by unfold tx_go; rw [if_neg q])
    refine nd_aload_n hC dX7_goesIn_0 rfl rfl ?_
    refine mo_get_deep hC hw rfl dX7_goesIn_1 ?_
    refine nd_v_eq (congrArg Value.int (f16)) ?_
    refine nd_bipush hC (v := nI 6) (by rfl) dX7_goesIn_4 ?_
    first | with_reducible refine nd_icmp_neN hC (tgt := 14) (by omega) (by omega) dX7_goesIn_6 (by decide) (fun hc => ?_) (fun hc => ?_) | refine nd_icmp_ne hC (tgt := 14) dX7_goesIn_6 (by decide) (fun hc => ?_) (fun hc => ?_)
    · rw [em, if_neg hc] at hk
      refine nd_aload_n hC dX7_goesIn_14 rfl rfl ?_
      refine nd_dup hC (by rfl) dX7_goesIn_15 ?_
      refine mo_get_deep hC hw rfl dX7_goesIn_16 ?_
      refine nd_v_eq (congrArg Value.int (f16)) ?_
      refine nd_iconst hC (v := nI 1) (by rfl) dX7_goesIn_19 ?_
      first | with_reducible refine nd_iaddN hC dX7_goesIn_20 ?_ | refine nd_iadd hC dX7_goesIn_20 ?_
      refine mo_put_deep hC hw rfl dX7_goesIn_21 (fun h hw => ?_)
      refine nd_aload_n hC dX7_goesIn_24 rfl rfl ?_
      refine mo_get_bad hC hw rfl dX7_goesIn_25 ?_
      refine nd_v_eq (congrArg Value.int (f12)) ?_
      first | with_reducible refine nd_if_neB hC (tgt := 35) dX7_goesIn_28 (by decide) (fun hq => ?_) (fun hq => ?_) | with_reducible refine nd_if_neN hC (tgt := 35) (by omega) dX7_goesIn_28 (by decide) (fun hq => ?_) (fun hq => ?_) | refine nd_if_ne hC (tgt := 35) dX7_goesIn_28 (by decide) (fun hq => ?_) (fun hq => ?_)
      · exact absurd rfl hq
      · refine nd_aload_n hC dX7_goesIn_31 rfl rfl ?_
        refine mo_callV (As := []) (d2 := d - 1) hC hw rfl lkX7_131 lyX7_131 (Nat.le_of_ble_eq_true rfl) (by omega) rfl (by exact Nat.le_of_ble_eq_true rfl) (Nat.zero_le _) (Nat.zero_le _) dX7_goesIn_32 rfl ((sr_on (dp := dp + 1) hg (by omega) hw htp (tx_h_le T hin) f7 f8 f12 rfl (fun F2 h2 hw fr hF => ?_)))
        refine nd_return hC rfl (by omega) (by omega) dX7_goesIn_35 ((hk F2 h2 hw ((tx_y.rfl.up (j := 16) (by omega)).trans (tx_y.on fr)) hF))
    · refine nd_aload_n hC dX7_goesIn_9 rfl rfl ?_
      refine nd_iconst hC (v := nI 4) (by rfl) dX7_goesIn_10 ?_
      refine mo_callV (As := [_]) (d2 := d - 1) hC hw rfl lkX7_134 lyX7_134 (Nat.le_of_ble_eq_true rfl) (by omega) rfl (by exact Nat.le_of_ble_eq_true rfl) (Nat.zero_le _) (Nat.zero_le _) dX7_goesIn_11 rfl ((sr_blames hg hw hZ2 (by omega) (by omega) (fun F2 h2 hw fr hZ => ?_)))
      exact J14 F2 h2 _ hw fr hZ (by rw [em, if_pos hc]; rfl)
end RT2

