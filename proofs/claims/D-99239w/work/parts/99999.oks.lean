set_option maxRecDepth 100000
/-! ===== the next state is sound ===== -/
theorem sp_do_ok {P : sy_P} {z : Int} (hP : sp_ok P) (h : dd_why P z = 0) : sp_ok (P.1, dd_do P.2.1 z, sv_keep P.2.2 P.2.1) := by
  have := sv_keep_ok hP.2.2.1 hP.2.2.2 hP.2.1
  exact ⟨hP.1, dd_ok hP h, this.1, this.2⟩
theorem pf_go_ok : ∀ (vs : List Int64) (P : sy_P) (k : Nat), sp_ok P → sp_ok (pf_go P vs k).2 := by
  intro vs
  induction vs with
  | nil => intro P k h; exact h
  | cons v vs ih =>
    intro P k h
    show sp_ok (if dd_why P v.toInt = 0 then pf_go (if v.toInt = -1 then P else (P.1, dd_do P.2.1 v.toInt, sv_keep P.2.2 P.2.1)) vs (k + 1) else (k, P)).2
    by_cases q : dd_why P v.toInt = 0
    · rw [if_pos q]
      by_cases q2 : v.toInt = -1
      · rw [if_pos q2]; exact ih _ _ h
      · rw [if_neg q2]; exact ih _ _ (sp_do_ok h q)
    · rw [if_neg q]; exact h
theorem ev_go_ok : ∀ (k : Nat) (P : sy_P) (x : Int32) (n : Nat), sp_ok P → sp_ok (ev_go k P x n).2 := by
  intro k
  induction k with
  | zero => intro P x n h; exact h
  | succ k ih =>
    intro P x n h
    show sp_ok (if dd_why P (dr_deed x).1 = 0 then ev_go k (P.1, dd_do P.2.1 (dr_deed x).1, sv_keep P.2.2 P.2.1) (dr_deed x).2 (n + 1) else ev_go k P (dr_deed x).2 n).2
    by_cases q : dd_why P (dr_deed x).1 = 0
    · rw [if_pos q]; exact ih _ _ _ (sp_do_ok h q)
    · rw [if_neg q]; exact ih _ _ _ h
theorem ok_perform {x : Int32} {S : sy_S} (hS : sy_ok S) : sy_ok (op_perform x S).2.2 := by
  unfold op_perform
  split
  · exact sy_set_ok hS (pf_go_ok _ _ _ hS.1)
  · exact hS
theorem ok_evening {x y : Int32} {S : sy_S} (hS : sy_ok S) : sy_ok (op_evening x y S).2.2 := by
  unfold op_evening
  split
  · exact sy_set_ok hS (ev_go_ok _ _ _ _ hS.1)
  · exact hS
theorem ok_unfold {S : sy_S} (hS : sy_ok S) : sy_ok (op_unfold S).2.2 := by
  unfold op_unfold
  split
  · exact hS
  · next q => exact sy_dd_ok hS (dd_why_un (Or.inl rfl) q)
theorem ok_shake {S : sy_S} (hS : sy_ok S) : sy_ok (op_shake S).2.2 := by
  unfold op_shake
  split
  · exact hS
  · next q => exact sy_dd_ok hS (dd_why_un (Or.inr rfl) q)
theorem ok_fold {x y : Int32} {S : sy_S} (hS : sy_ok S) : sy_ok (op_fold x y S).2.2 := by
  unfold op_fold
  split
  · next q =>
    obtain ⟨a, ha⟩ : ∃ a : Nat, x.toInt = a := ⟨x.toInt.toNat, by omega⟩
    obtain ⟨b, hb⟩ : ∃ b : Nat, y.toInt = b := ⟨y.toInt.toNat, by omega⟩
    have hw := lk_width (sy_l_ok hS)
    have h6 : sy_n S ≤ 6 := hS.1.1.1
    rw [ha, hb] at q ⊢
    exact sy_dd_ok hS (dd_why_fold (by omega) (by omega) (by omega) (by omega))
  · exact hS
theorem ok_amend {x y z : Int32} {S : sy_S} (hS : sy_ok S) : sy_ok (op_amend x y z S).2.2 := by
  unfold op_amend
  split
  · next q =>
    split
    · next q2 =>
      rw [Bool.and_eq_true] at q2
      obtain ⟨a, ha, rfl⟩ := op_in_nat q
      obtain ⟨b, hb, rfl⟩ := op_in_nat q2.1
      obtain ⟨c, hc, rfl⟩ := op_in_nat q2.2
      have h6 : sy_n S ≤ 6 := hS.1.1.1
      rw [nI_toInt (by omega), nI_toInt (by omega), nI_toInt (by omega)]
      exact sy_dd_ok hS (dd_why_mark (by omega) h6 (by omega) (by omega))
    · exact hS
  · exact hS
theorem ok_tray {x y z : Int32} {S : sy_S} (hS : sy_ok S) : sy_ok (op_tray x y z S).2.2 := by
  unfold op_tray
  split
  · split
    · next q =>
      rw [Bool.and_eq_true] at q
      obtain ⟨a, ha, rfl⟩ := op_in_nat q.1
      obtain ⟨b, hb, rfl⟩ := op_in_nat q.2
      exact sy_tr_ok hS (by rw [nI_cl (by omega)]; show a < 4; omega) (by show (List.replicate (nI b).toNatClampNeg (0 : Int64)).length ≤ 30; rw [List.length_replicate, nI_cl (by omega)]; omega)
    · exact hS
  · exact hS
theorem ty_vs_ok {x : Int32} {S : sy_S} (hS : sy_ok S) (h : ty_f x S = 0) : ty_s x S < 4 ∧ (ty_v x S).length ≤ 30 := by
  unfold ty_f at h
  by_cases q : op_in x 0 3 = true
  · rw [if_pos q] at h
    obtain ⟨a, ha, rfl⟩ := op_in_nat q
    unfold ty_s ty_v
    rw [nI_cl (by omega)] at h ⊢
    cases e : sy_t S a with
    | none => exact ⟨(by show 0 < 4; omega), Nat.zero_le _⟩
    | some q => exact hS.2.2.1 a (by omega) q e
  · rw [if_neg q] at h; omega
theorem ok_write {x y : Int32} {v : Int64} {S : sy_S} (hS : sy_ok S) : sy_ok (op_write x y v S).2.2 := by
  unfold op_write
  split
  · next q =>
    have := ty_vs_ok hS q
    split
    · exact sy_tr_ok hS this.1 (by show ((ty_v x S).set _ _).length ≤ 30; rw [List.length_set]; exact this.2)
    · exact hS
  · exact hS
theorem cp_go_len (S : sy_S) (so : Nat) (v : List Int64) : ∀ k, (cp_go S so v k).length = v.length := by
  intro k
  induction k with
  | zero => rfl
  | succ k ih =>
    show ((cp_go S so v k).set k _).length = _
    rw [List.length_set, ih]
theorem ok_copy {x : Int32} {S : sy_S} (hS : sy_ok S) : sy_ok (op_copy x S).2.2 := by
  unfold op_copy
  split
  · next q =>
    have := ty_vs_ok hS q
    exact sy_tr_ok hS this.1 (by show (cp_go S _ _ _).length ≤ 30; rw [cp_go_len]; exact this.2)
  · exact hS
theorem ok_image {x : Int32} {S : sy_S} (hS : sy_ok S) : sy_ok (op_image x S).2.2 := by
  unfold op_image
  split
  · refine ⟨hS.1, fun i hi P e => ?_, hS.2.2⟩
    have e : (if i = x.toNatClampNeg then some S.1 else sy_i S i) = some P := e
    split at e
    · cases e; exact hS.1
    · exact hS.2.1 i hi P e
  · exact hS
theorem ok_restore {x : Int32} {S : sy_S} (hS : sy_ok S) : sy_ok (op_restore x S).2.2 := by
  unfold op_restore
  split
  · next q =>
    obtain ⟨a, ha, rfl⟩ := op_in_nat q
    split
    · exact hS
    · next P e =>
      rw [nI_cl (by omega)] at e
      exact sy_set_ok hS (hS.2.1 a (by omega) P e)
  · exact hS
theorem ok_undo {x : Int32} {S : sy_S} (hS : sy_ok S) : sy_ok (op_undo x S).2.2 := by
  unfold op_undo
  split
  · next q =>
    have h1 : sy_n S = nk_n (sy_N S) := rfl
    obtain ⟨d1, d2, d3, d4⟩ := hS.1
    have hx : 1 ≤ x.toInt := by
      have := q.1
      unfold op_in at this
      rw [decide_eq_true_iff] at this
      exact this.1
    have hcl : (x.toNatClampNeg : Int) = x.toInt := by
      rw [Int32.toNatClampNeg]
      exact Int.toNat_of_nonneg (by omega)
    refine sy_set_ok hS ⟨d1, ?_, ?_, ?_⟩
    · refine d4 _ ?_
      have hl : (sy_d S).length - x.toNatClampNeg < (sy_d S).length := by have := q.2; omega
      rw [List.getD_eq_getElem?_getD, List.getElem?_eq_getElem hl]
      exact List.getElem_mem hl
    · show ((sy_d S).take _).length ≤ 10
      rw [List.length_take]
      have : (sy_d S).length ≤ 10 := d3
      omega
    · intro s hs
      exact d4 s (List.mem_of_mem_take hs)
  · exact hS
theorem ok_feed {a b c d e : Int32} {S : sy_S} (hS : sy_ok S) : sy_ok (op_feed a b c d e S).2.2 := by
  unfold op_feed
  split
  · exact hS
  · next q =>
    obtain ⟨s1, s2, s3, s4, s5, s6⟩ := hS
    refine ⟨s1, s2, s3, ?_, fun i => ?_, s6⟩
    · show (sy_b S ++ (List.range 20).map (fe_at a b c d e)).length ≤ 900
      rw [List.length_append, List.length_map, List.length_range]; omega
    · show (sy_b S ++ (List.range 20).map (fe_at a b c d e)).getD i 0 < 256
      by_cases z : i < (sy_b S).length
      · rw [List.getD_eq_getElem?_getD, List.getElem?_append_left z, ← List.getD_eq_getElem?_getD]; exact s5 i
      · rw [List.getD_eq_getElem?_getD, List.getElem?_append_right (by omega), List.getElem?_map]
        cases (List.range 20)[i - (sy_b S).length]? with
        | none => show 0 < 256; omega
        | some k => exact fe_b_lt _ _

