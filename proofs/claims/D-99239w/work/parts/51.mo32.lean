set_option maxRecDepth 100000
theorem nd_drop_cons {v : List Int64} {k : Nat} (h : k < v.length) : v.drop k = v.getD k 0 :: v.drop (k + 1) := by
  rw [List.drop_eq_getElem_cons h, List.getD_eq_getElem?_getD, List.getElem?_eq_getElem h]; rfl
/-- deeds judged in a row: where the first one fails, why, the state there -/
def jd_go : sy_P → List Int64 → Nat → Int32 × Nat × sv
  | P, [], _ => (-1, 0, P.2.1)
  | P, v :: vs, k => if dd_why P v.toInt = 0 then jd_go (P.1, dd_do P.2.1 v.toInt, P.2.2) vs (k + 1) else (nI k, dd_why P v.toInt, P.2.1)
def jd_f (x y : Int32) (S : sy_S) : Nat := if ty_f x S = 0 then (if op_in y 0 3 = true then 0 else 3) else ty_f x S
def op_judge (x y : Int32) (S : sy_S) : sy_R := if jd_f x y S = 0 then (0, (if y = 0 then (jd_go (sy_p S) (ty_v x S) 0).1 else if y = nI 1 then nI (jd_go (sy_p S) (ty_v x S) 0).2.1 else if y = nI 2 then nI (lk_run (lk_flat (sy_n S)) (jd_go (sy_p S) (ty_v x S) 0).2.2.1).length else nI (jd_go (sy_p S) (ty_v x S) 0).2.2.1.length), S) else (jd_f x y S, nI 0, S)
theorem jd_f_le (x y : Int32) (S : sy_S) : jd_f x y S ≤ 3 := by
  have := ty_f_le x S
  unfold jd_f
  split
  · split <;> omega
  · omega
theorem jd_f_0 {x y : Int32} {S : sy_S} (h : jd_f x y S = 0) : ty_f x S = 0 ∧ op_in y 0 3 = true := by
  unfold jd_f at h
  by_cases q : ty_f x S = 0
  · rw [if_pos q] at h
    by_cases q2 : op_in y 0 3 = true
    · exact ⟨q, q2⟩
    · rw [if_neg q2] at h; exact absurd h (by decide)
  · rw [if_neg q] at h; exact absurd h q
/-- deeds done in a row -/
def pf_go : sy_P → List Int64 → Nat → Nat × sy_P
  | P, [], k => (k, P)
  | P, v :: vs, k => if dd_why P v.toInt = 0 then pf_go (if v.toInt = -1 then P else (P.1, dd_do P.2.1 v.toInt, sv_keep P.2.2 P.2.1)) vs (k + 1) else (k, P)
def op_perform (x : Int32) (S : sy_S) : sy_R := if ty_f x S = 0 then (0, nI (pf_go (sy_p S) (ty_v x S) 0).1, sy_set S (pf_go (sy_p S) (ty_v x S) 0).2) else (ty_f x S, nI 0, S)
/-- numbers drawn -/
def dr_s (x : Int32) : Int32 := nI 1103515245 * x + nI 12345
def dr_v (x : Int32) : Nat := (dr_s x).toUInt32.toNat / 65536
def dr_deed (x : Int32) : Nat × Int32 :=
  let w := dr_v x % 4
  let x1 := dr_s x
  if w = 2 then (100, x1) else if w = 3 then (1000 + 100 * (dr_v x1 % 6) + dr_v (dr_s x1) % 100, dr_s (dr_s x1)) else (10 * (1 + dr_v x1 % 5) + dr_v (dr_s x1) % 4, dr_s (dr_s x1))
def ev_go : Nat → sy_P → Int32 → Nat → Nat × sy_P
  | 0, P, _, n => (n, P)
  | k + 1, P, x, n => if dd_why P (dr_deed x).1 = 0 then ev_go k (P.1, dd_do P.2.1 (dr_deed x).1, sv_keep P.2.2 P.2.1) (dr_deed x).2 (n + 1) else ev_go k P (dr_deed x).2 n
def op_evening (x y : Int32) (S : sy_S) : sy_R := if op_in y 1 30 = true then (0, nI (ev_go y.toNatClampNeg (sy_p S) x 0).1, sy_set S (ev_go y.toNatClampNeg (sy_p S) x 0).2) else (1, nI 0, S)
theorem dr_v_lt (x : Int32) : dr_v x < 65536 := by
  have := (dr_s x).toUInt32.toNat_lt
  unfold dr_v
  omega
theorem u_toI (u : UInt32) : u.toInt32 = nI u.toNat := by
  apply Int32.toBitVec_inj.1
  show u.toBitVec = BitVec.ofNat 32 u.toNat
  apply BitVec.eq_of_toNat_eq
  rw [BitVec.toNat_ofNat, Nat.mod_eq_of_lt u.toNat_lt]; rfl
theorem dr_ushr (x : Int32) : (x.toUInt32 >>> ((nI 16).toUInt32 &&& Int32.toUInt32 31)).toInt32 = nI (x.toUInt32.toNat / 65536) := by
  have e : ((nI 16).toUInt32 &&& Int32.toUInt32 31) = 16 := by decide
  rw [e, u_toI, UInt32.toNat_shiftRight, Nat.shiftRight_eq_div_pow]; rfl
section MO32
variable {g : nd_G} {d : Nat} {K : nd_K} {h h0 : nd_H} {A : Nat → Nat → Int32} {F : Nat → Int32} {B : Nat → Nat → Int64} {f : Nat → Int32}
theorem mp_undo (hg : nd_OK g) (hd : 1 ≤ d) (x : Int32) : mp_ok g h0 mX7_undo d [.int x] (mp_i (op_undo x)) := by
  intro tt S A F B h K ht hI hS hw hk
  have h5 := sy_len5 hS
  have hn : sy_n S ≤ 6 := hS.1.1.1
  have h10 : (sy_d S).length ≤ 10 := hS.1.2.2.1
  unfold mp_i op_undo at hk
  refine nd_enter hg (by decide) rfl (Nat.le_of_ble_eq_true rfl) (fun X hC => ?_)
  have JE : ¬ (op_in x 1 10 = true ∧ x.toInt ≤ (sy_d S).length) → ∀ h, mo_W h0 A (va_up F 4 (nI 0)) B h → nd_W g mX7_undo d 0 0 K X 28 [some (.ref 101), some (.int x), none] [] h 0 0 := by
    intro q h hw
    rw [if_neg q] at hk
    refine nd_aload_n hC dX7_undo_28 rfl rfl ?_
    refine nd_iconst hC (v := nI 1) (by rfl) dX7_undo_29 ?_
    refine mo_callV (As := [_]) (d2 := d - 1) hC hw rfl lkX7_244 lyX7_244 (Nat.le_of_ble_eq_true rfl) (by omega) rfl (by exact Nat.le_of_ble_eq_true rfl) (Nat.zero_le _) (Nat.zero_le _) dX7_undo_30 rfl ((sp_fails hg hw (fun h3 hw => ?_)))
    refine nd_ireturn hC rfl (by first | rfl | exact nd_b_nar _) (by omega) (by omega) dX7_undo_33 ((hk A _ _ h3 (hI.th.th.t (by omega)) (va_up_s _ _ _) hw))
  refine nd_aload_n hC dX7_undo_0 rfl rfl ?_
  refine nd_iconst hC (v := nI 0) (by rfl) dX7_undo_1 ?_
  refine mo_put_thrown hC hw rfl dX7_undo_2 (fun h hw => ?_)
  refine nd_iload_n hC dX7_undo_5 rfl ?_
  first | with_reducible refine nd_i2lN hC (by omega) dX7_undo_6 ?_ | refine nd_i2l hC dX7_undo_6 ?_
  refine nd_lconst hC (v := lN 1) (by rfl) dX7_undo_7 ?_
  refine nd_ldc2 hC q3176 dX7_undo_8 ?_
  refine nd_v_eq (y := .long (lN 10)) (by rfl) ?_
  refine mo_callS (As := [_, _, _]) (d2 := d - 1) hC rfl lkX7_138 lyX7_138 (Nat.le_of_ble_eq_true rfl) (by omega) rfl (by exact Nat.le_of_ble_eq_true rfl) (Nat.zero_le _) (Nat.zero_le _) dX7_undo_11 rfl ((sp_within hg ?_))
  have e : (decide (lN 1 ≤ x.toInt64) && decide (x.toInt64 ≤ lN 10)) = op_in x 1 10 := by
    unfold op_in
    rw [Bool.eq_iff_iff, Bool.and_eq_true, nd_lle, nd_lle, nd_tl, lN_toInt (by decide), lN_toInt (by decide), decide_eq_true_iff]
    omega
  rw [e]
  first | with_reducible refine nd_if_eqB hC (tgt := 28) dX7_undo_14 (by decide) (fun hc => ?_) (fun hc => ?_) | with_reducible refine nd_if_eqN hC (tgt := 28) (by omega) dX7_undo_14 (by decide) (fun hc => ?_) (fun hc => ?_) | refine nd_if_eq hC (tgt := 28) dX7_undo_14 (by decide) (fun hc => ?_) (fun hc => ?_)
  · exact JE (fun q => absurd (hc.symm.trans q.1) (by decide)) h hw
  · obtain ⟨a, ha, rfl⟩ : ∃ a : Nat, (1 ≤ a ∧ a ≤ 10) ∧ x = nI a := by
      unfold op_in at hc
      rw [decide_eq_true_iff] at hc
      exact ⟨x.toInt.toNat, by omega, by rw [← Int32.toInt_inj, nI_toInt (by omega)]; omega⟩
    rw [nI_toInt (by omega), nI_cl (by omega)] at hk
    refine nd_iload_n hC dX7_undo_17 rfl ?_
    refine nd_aload_n hC dX7_undo_18 rfl rfl ?_
    refine mo_get_known hC hw rfl dX7_undo_19 ?_
    refine nd_bipush hC (v := nI 6) (by rfl) dX7_undo_22 ?_
    refine nd_ialoadN hC hw.known (by omega) (by decide) dX7_undo_24 ?_
    rw [hI.1.2.2.1]
    show nd_W _ _ _ _ _ _ _ _ _ (.int (nI (sy_d S).length) :: _) _ _ _
    first | with_reducible refine nd_icmp_leN hC (tgt := 34) (by omega) (by omega) dX7_undo_25 (by decide) (fun hq => ?_) (fun hq => ?_) | refine nd_icmp_le hC (tgt := 34) dX7_undo_25 (by decide) (fun hq => ?_) (fun hq => ?_)
    · rw [if_pos ⟨hc, by omega⟩] at hk
      generalize hm : (sy_d S).length - a = m at *
      have hmd : m < (sy_d S).length := by omega
      have hsm : mo_sv (A 0) (29 + 18 * m) ((sy_d S).getD m ([], [], [])) := hI.1.2.2.2 m hmd
      have hmem : ∀ i, i < (sy_d S).length → (sy_d S).getD i ([], [], []) ∈ sy_d S := by
        intro i hi
        rw [List.getD_eq_getElem?_getD, List.getElem?_eq_getElem hi]; exact List.getElem_mem _
      have hsok := hS.1.2.2.2 _ (hmem m hmd)
      refine nd_aload_n hC dX7_undo_34 rfl rfl ?_
      refine mo_get_known hC hw rfl dX7_undo_35 ?_
      refine nd_bipush hC (v := nI 6) (by rfl) dX7_undo_38 ?_
      refine nd_dup2_11 hC (by rfl) (by rfl) dX7_undo_40 ?_
      refine nd_ialoadN hC hw.known (by omega) (by decide) dX7_undo_41 ?_
      rw [hI.1.2.2.1]
      show nd_W _ _ _ _ _ _ _ _ _ (.int (nI (sy_d S).length) :: _) _ _ _
      refine nd_iload_n hC dX7_undo_42 rfl ?_
      first | with_reducible refine nd_isubN hC (by omega) dX7_undo_43 ?_ | refine nd_isub hC dX7_undo_43 ?_
      refine mo_ast_known hC hw (by omega) dX7_undo_44 (fun h hw => ?_)
      try simp only [va_up_up, va_up_s] at hw
      refine nd_iconst hC (v := nI 0) (by rfl) dX7_undo_45 ?_
      refine nd_istore_n hC dX7_undo_46 (Nat.le_of_ble_eq_true rfl) ?_
      rw [hm] at hw
      have L : ∀ k, k ≤ 18 → ∀ f2 h2, (∀ i, i < 6 → f2 i = A 0 i) → f2 6 = nI m → (∀ i, i < k → f2 (7 + i) = A 0 (29 + 18 * m + i)) → (∀ i, 25 ≤ i → f2 i = A 0 i) → mo_W h0 (va_up A 0 f2) (va_up F 4 (nI 0)) B h2 → nd_W g mX7_undo d 0 0 K X 47 [some (.ref 101), some (.int (nI a)), some (.int (nI k))] [] h2 0 0 := by
        refine nd_for _ _ ?_ ?_
        · intro f2 h e1 e6 e2 e3 hw
          refine nd_iload_n hC dX7_undo_47 rfl ?_
          refine nd_bipush hC (v := nI 18) (by rfl) dX7_undo_48 ?_
          first | with_reducible refine nd_icmp_geN hC (tgt := 88) (by omega) (by omega) dX7_undo_50 (by decide) (fun hc => ?_) (fun hc => ?_) | refine nd_icmp_ge hC (tgt := 88) dX7_undo_50 (by decide) (fun hc => ?_) (fun hc => ?_)
          · refine nd_aload_n hC dX7_undo_88 rfl rfl ?_
            refine mo_get_known hC hw rfl dX7_undo_89 ?_
            refine nd_bipush hC (v := nI 6) (by rfl) dX7_undo_92 ?_
            refine nd_ialoadN hC hw.known (by omega) (by decide) dX7_undo_94 ?_
            rw [va_up_s, e6]
            have hI4 : mo_I tt (sy_set S (sy_N S, (sy_d S).getD m ([], [], []), (sy_d S).take m)) (va_up A 0 f2) (va_up F 4 (nI 0)) B := by
              refine hI.th.kn ⟨mo_nap_congr hS.1.1 hI.1.1 (fun i hi => ?_), mo_sv_mv hsok hn hsm (fun j hj => e2 j hj), ?_, fun i hi => ?_⟩
              · by_cases q : i < 6
                · exact e1 i q
                · exact e3 i (by omega)
              · show f2 6 = nI ((sy_d S).take m).length
                rw [e6, List.length_take, Nat.min_eq_left (by omega)]
              · have hi : i < ((sy_d S).take m).length := hi
                rw [List.length_take, Nat.min_eq_left (by omega)] at hi
                have et : ((sy_d S).take m).getD i ([], [], []) = (sy_d S).getD i ([], [], []) := by
                  rw [List.getD_eq_getElem?_getD, List.getD_eq_getElem?_getD, List.getElem?_take_of_lt hi]
                show mo_sv f2 (29 + 18 * i) (((sy_d S).take m).getD i ([], [], []))
                rw [et]
                exact mo_sv_mv (hS.1.2.2.2 _ (hmem i (by omega))) hn (hI.1.2.2.2 i (by show i < (sy_d S).length; omega)) (fun j hj => e3 _ (by omega))
            refine nd_ireturn hC rfl (by first | rfl | exact nd_b_nar _) (by omega) (by omega) dX7_undo_95 ((hk _ _ _ h (hI4.t (by omega)) (va_up_s _ _ _) hw))
          · omega
        · intro k hk1 ih f2 h e1 e6 e2 e3 hw
          refine nd_iload_n hC dX7_undo_47 rfl ?_
          refine nd_bipush hC (v := nI 18) (by rfl) dX7_undo_48 ?_
          first | with_reducible refine nd_icmp_geN hC (tgt := 88) (by omega) (by omega) dX7_undo_50 (by decide) (fun hc => ?_) (fun hc => ?_) | refine nd_icmp_ge hC (tgt := 88) dX7_undo_50 (by decide) (fun hc => ?_) (fun hc => ?_)
          · omega
          · refine nd_aload_n hC dX7_undo_53 rfl rfl ?_
            refine mo_get_known hC hw rfl dX7_undo_54 ?_
            refine nd_bipush hC (v := nI 7) (by rfl) dX7_undo_57 ?_
            refine nd_iload_n hC dX7_undo_59 rfl ?_
            first | with_reducible refine nd_iaddN hC dX7_undo_60 ?_ | refine nd_iadd hC dX7_undo_60 ?_
            refine nd_aload_n hC dX7_undo_61 rfl rfl ?_
            refine mo_get_known hC hw rfl dX7_undo_62 ?_
            refine nd_bipush hC (v := nI 29) (by rfl) dX7_undo_65 ?_
            refine nd_bipush hC (v := nI 18) (by rfl) dX7_undo_67 ?_
            refine nd_aload_n hC dX7_undo_69 rfl rfl ?_
            refine mo_get_known hC hw rfl dX7_undo_70 ?_
            refine nd_bipush hC (v := nI 6) (by rfl) dX7_undo_73 ?_
            refine nd_ialoadN hC hw.known (by omega) (by decide) dX7_undo_75 ?_
            rw [va_up_s, e6]
            first | with_reducible refine nd_imulN hC dX7_undo_76 ?_ | refine nd_imul hC dX7_undo_76 ?_
            first | with_reducible refine nd_iaddN hC dX7_undo_77 ?_ | refine nd_iadd hC dX7_undo_77 ?_
            refine nd_iload_n hC dX7_undo_78 rfl ?_
            first | with_reducible refine nd_iaddN hC dX7_undo_79 ?_ | refine nd_iadd hC dX7_undo_79 ?_
            refine nd_ialoadN hC hw.known (by omega) (by decide) dX7_undo_80 ?_
            refine mo_ast_known hC hw (by omega) dX7_undo_81 (fun h hw => ?_)
            try simp only [va_up_up, va_up_s] at hw
            first | with_reducible refine nd_iincN hC dX7_undo_82 rfl (Nat.le_of_ble_eq_true rfl) ?_ | refine nd_iinc hC dX7_undo_82 rfl rfl (Nat.le_of_ble_eq_true rfl) ?_
            refine nd_goto hC (tgt := 47) dX7_undo_85 (by decide) ?_
            refine ih _ h (fun i hi => ?_) ?_ (fun i hi => ?_) (fun i hi => ?_) hw
            · rw [upd_n (by omega)]; exact e1 i hi
            · rw [upd_n (by omega)]; exact e6
            · by_cases e : i = k
              · subst e; rw [upd_s]; exact e3 _ (by omega)
              · rw [upd_n (by omega)]; exact e2 i (by omega)
            · rw [upd_n (by omega)]; exact e3 i hi
      exact L 0 (Nat.zero_le _) _ h (fun i hi => upd_n (by omega)) (upd_s ..) (fun i hi => absurd hi (Nat.not_lt_zero _)) (fun i hi => upd_n (by omega)) hw
    · exact JE (fun q => by have := q.2; rw [nI_toInt (by omega)] at this; omega) h hw
theorem sp_putsAside (hg : nd_OK g) {tt n : Nat} {s : sv} (hs : sv_ok n s) (hn : n ≤ 6) (hsv : mo_sv (A 0) 7 s) (hw : mo_W h0 A F B h) (hk : ∀ f2 h2, mo_sv f2 0 s → mo_W h0 (va_up A 23 f2) F B h2 → K (.inl none) h2) : nd_M g mX7_putsAside d 0 0 [.ref 101] h K := by
  refine nd_enter hg (by decide) rfl (Nat.le_of_ble_eq_true rfl) (fun X hC => ?_)
  refine nd_iconst hC (v := nI 0) (by rfl) dX7_putsAside_0 ?_
  refine nd_istore_n hC dX7_putsAside_1 (Nat.le_of_ble_eq_true rfl) ?_
  have L : ∀ k, k ≤ 18 → ∀ f2 h2, (∀ i, i < k → f2 i = A 0 (7 + i)) → mo_W h0 (va_up A 23 f2) F B h2 → nd_W g mX7_putsAside d 0 0 K X 2 [some (.ref 101), some (.int (nI k))] [] h2 0 0 := by
    refine nd_for _ _ ?_ ?_
    · intro f2 h e hw
      refine nd_iload_n hC dX7_putsAside_2 rfl ?_
      refine nd_bipush hC (v := nI 18) (by rfl) dX7_putsAside_3 ?_
      first | with_reducible refine nd_icmp_geN hC (tgt := 29) (by omega) (by omega) dX7_putsAside_5 (by decide) (fun hc => ?_) (fun hc => ?_) | refine nd_icmp_ge hC (tgt := 29) dX7_putsAside_5 (by decide) (fun hc => ?_) (fun hc => ?_)
      · refine nd_return hC rfl (by omega) (by omega) dX7_putsAside_29 ((hk f2 h (mo_sv_mv hs hn hsv (fun j hj => by rw [Nat.zero_add]; exact e j hj)) hw))
      · omega
    · intro k hk1 ih f2 h e hw
      refine nd_iload_n hC dX7_putsAside_2 rfl ?_
      refine nd_bipush hC (v := nI 18) (by rfl) dX7_putsAside_3 ?_
      first | with_reducible refine nd_icmp_geN hC (tgt := 29) (by omega) (by omega) dX7_putsAside_5 (by decide) (fun hc => ?_) (fun hc => ?_) | refine nd_icmp_ge hC (tgt := 29) dX7_putsAside_5 (by decide) (fun hc => ?_) (fun hc => ?_)
      · omega
      · refine nd_aload_n hC dX7_putsAside_8 rfl rfl ?_
        refine mo_get_aside hC hw rfl dX7_putsAside_9 ?_
        refine nd_iload_n hC dX7_putsAside_12 rfl ?_
        refine nd_aload_n hC dX7_putsAside_13 rfl rfl ?_
        refine mo_get_known hC hw rfl dX7_putsAside_14 ?_
        refine nd_bipush hC (v := nI 7) (by rfl) dX7_putsAside_17 ?_
        refine nd_iload_n hC dX7_putsAside_19 rfl ?_
        first | with_reducible refine nd_iaddN hC dX7_putsAside_20 ?_ | refine nd_iadd hC dX7_putsAside_20 ?_
        refine nd_ialoadN hC hw.known (by omega) (by decide) dX7_putsAside_21 ?_
        refine mo_ast_aside hC hw (by omega) dX7_putsAside_22 (fun h hw => ?_)
        try simp only [va_up_up, va_up_s] at hw
        first | with_reducible refine nd_iincN hC dX7_putsAside_23 rfl (Nat.le_of_ble_eq_true rfl) ?_ | refine nd_iinc hC dX7_putsAside_23 rfl rfl (Nat.le_of_ble_eq_true rfl) ?_
        refine nd_goto hC (tgt := 2) dX7_putsAside_26 (by decide) ?_
        refine ih _ h (fun i hi => ?_) hw
        by_cases q : i = k
        · subst q; rw [upd_s]; rfl
        · rw [upd_n q]; exact e i (by omega)
  exact L 0 (Nat.zero_le _) (A 23) h (fun i hi => absurd hi (Nat.not_lt_zero _)) (by rw [va_up_id]; exact hw)
theorem sp_putsBack (hg : nd_OK g) {tt : Nat} {S : sy_S} {s : sv} (hI : mo_I tt S A F B) (hS : sy_ok S) (hs : sv_ok (sy_n S) s) (hsv : mo_sv (A 23) 0 s) (hw : mo_W h0 A F B h) (hk : ∀ f2 h2, mo_I tt (sy_st S s) (va_up A 0 f2) F B → mo_W h0 (va_up A 0 f2) F B h2 → K (.inl none) h2) : nd_M g mX7_putsBack d 0 0 [.ref 101] h K := by
  have hn : sy_n S ≤ 6 := hS.1.1.1
  refine nd_enter hg (by decide) rfl (Nat.le_of_ble_eq_true rfl) (fun X hC => ?_)
  refine nd_iconst hC (v := nI 0) (by rfl) dX7_putsBack_0 ?_
  refine nd_istore_n hC dX7_putsBack_1 (Nat.le_of_ble_eq_true rfl) ?_
  have L : ∀ k, k ≤ 18 → ∀ f2 h2, (∀ i, i < k → f2 (7 + i) = A 23 i) → (∀ i, (i < 7 ∨ 25 ≤ i) → f2 i = A 0 i) → mo_W h0 (va_up A 0 f2) F B h2 → nd_W g mX7_putsBack d 0 0 K X 2 [some (.ref 101), some (.int (nI k))] [] h2 0 0 := by
    refine nd_for _ _ ?_ ?_
    · intro f2 h e e2 hw
      refine nd_iload_n hC dX7_putsBack_2 rfl ?_
      refine nd_bipush hC (v := nI 18) (by rfl) dX7_putsBack_3 ?_
      first | with_reducible refine nd_icmp_geN hC (tgt := 29) (by omega) (by omega) dX7_putsBack_5 (by decide) (fun hc => ?_) (fun hc => ?_) | refine nd_icmp_ge hC (tgt := 29) dX7_putsBack_5 (by decide) (fun hc => ?_) (fun hc => ?_)
      · refine nd_return hC rfl (by omega) (by omega) dX7_putsBack_29 ((hk f2 h (hI.st hS e2 (mo_sv_mv hs hn hsv (fun j hj => by rw [Nat.zero_add]; exact e j hj))) hw))
      · omega
    · intro k hk1 ih f2 h e e2 hw
      refine nd_iload_n hC dX7_putsBack_2 rfl ?_
      refine nd_bipush hC (v := nI 18) (by rfl) dX7_putsBack_3 ?_
      first | with_reducible refine nd_icmp_geN hC (tgt := 29) (by omega) (by omega) dX7_putsBack_5 (by decide) (fun hc => ?_) (fun hc => ?_) | refine nd_icmp_ge hC (tgt := 29) dX7_putsBack_5 (by decide) (fun hc => ?_) (fun hc => ?_)
      · omega
      · refine nd_aload_n hC dX7_putsBack_8 rfl rfl ?_
        refine mo_get_known hC hw rfl dX7_putsBack_9 ?_
        refine nd_bipush hC (v := nI 7) (by rfl) dX7_putsBack_12 ?_
        refine nd_iload_n hC dX7_putsBack_14 rfl ?_
        first | with_reducible refine nd_iaddN hC dX7_putsBack_15 ?_ | refine nd_iadd hC dX7_putsBack_15 ?_
        refine nd_aload_n hC dX7_putsBack_16 rfl rfl ?_
        refine mo_get_aside hC hw rfl dX7_putsBack_17 ?_
        refine nd_iload_n hC dX7_putsBack_20 rfl ?_
        refine nd_ialoadN hC hw.aside (by omega) (by decide) dX7_putsBack_21 ?_
        refine mo_ast_known hC hw (by omega) dX7_putsBack_22 (fun h hw => ?_)
        try simp only [va_up_up, va_up_s] at hw
        first | with_reducible refine nd_iincN hC dX7_putsBack_23 rfl (Nat.le_of_ble_eq_true rfl) ?_ | refine nd_iinc hC dX7_putsBack_23 rfl rfl (Nat.le_of_ble_eq_true rfl) ?_
        refine nd_goto hC (tgt := 2) dX7_putsBack_26 (by decide) ?_
        refine ih _ h (fun i hi => ?_) (fun i hi => by rw [upd_n (by omega)]; exact e2 i hi) hw
        by_cases q : i = k
        · subst q; rw [upd_s]; rfl
        · rw [upd_n (by omega)]; exact e i (by omega)
  exact L 0 (Nat.zero_le _) (A 0) h (fun i hi => absurd hi (Nat.not_lt_zero _)) (fun _ _ => rfl) (by rw [va_up_id]; exact hw)
theorem sp_draw (hg : nd_OK g) (hw : mo_W h0 A F B h) {m : Nat} (h1 : 1 ≤ m) (h2 : m ≤ 100) (hk : ∀ h2, mo_W h0 A (va_up F 24 (dr_s (F 24))) B h2 → K (.inl (some (.int (nI (dr_v (F 24) % m))))) h2) : nd_M g mX7_draw d 0 0 [.ref 101, .int (nI m)] h K := by
  have hv := dr_v_lt (F 24)
  refine nd_enter hg (by decide) rfl (Nat.le_of_ble_eq_true rfl) (fun X hC => ?_)
  refine nd_aload_n hC dX7_draw_0 rfl rfl ?_
  refine nd_ldcwI hC q3224 dX7_draw_1 ?_
  refine nd_v_eq (y := .int (nI 1103515245)) (by rfl) ?_
  refine nd_aload_n hC dX7_draw_4 rfl rfl ?_
  refine mo_get_state hC hw rfl dX7_draw_5 ?_
  first | with_reducible refine nd_imulN hC dX7_draw_8 ?_ | refine nd_imul hC dX7_draw_8 ?_
  refine nd_sipush hC (v := nI 12345) (by rfl) dX7_draw_9 ?_
  first | with_reducible refine nd_iaddN hC dX7_draw_12 ?_ | refine nd_iadd hC dX7_draw_12 ?_
  refine mo_put_state hC hw rfl dX7_draw_13 (fun h hw => ?_)
  refine nd_aload_n hC dX7_draw_16 rfl rfl ?_
  refine mo_get_state hC hw rfl dX7_draw_17 ?_
  refine nd_bipush hC (v := nI 16) (by rfl) dX7_draw_20 ?_
  refine nd_iushr hC dX7_draw_22 ?_
  rw [va_up_s, dr_ushr]
  show nd_W _ _ _ _ _ _ _ _ _ (.int (nI (dr_v (F 24))) :: _) _ _ _
  refine nd_iload_n hC dX7_draw_23 rfl ?_
  first | with_reducible refine nd_iremN hC (by omega) (by omega) (by omega) dX7_draw_24 ?_ | refine nd_irem hC (by decide) dX7_draw_24 ?_
  refine nd_ireturn hC rfl (by first | rfl | exact nd_b_nar _) (by omega) (by omega) dX7_draw_25 ((hk h hw))
theorem sp_drawn (hg : nd_OK g) (hd : 1 ≤ d) (hw : mo_W h0 A F B h) {w : Nat} (hw4 : w < 4) {x : Int32} (e : w = dr_v x % 4) (ex : F 24 = dr_s x) (hk : ∀ h2, mo_W h0 A (va_up F 24 (dr_deed x).2) B h2 → K (.inl (some (.int (nI (dr_deed x).1)))) h2) : nd_M g mX7_drawn d 0 0 [.ref 101, .int (nI w)] h K := by
  unfold dr_deed at hk
  simp only [] at hk
  rw [← e, ← ex] at hk
  have b6 : dr_v (F 24) % 6 < 6 := Nat.mod_lt _ (by decide)
  have b5 : dr_v (F 24) % 5 < 5 := Nat.mod_lt _ (by decide)
  have b100 : dr_v (dr_s (F 24)) % 100 < 100 := Nat.mod_lt _ (by decide)
  have b4 : dr_v (dr_s (F 24)) % 4 < 4 := Nat.mod_lt _ (by decide)
  refine nd_enter hg (by decide) rfl (Nat.le_of_ble_eq_true rfl) (fun X hC => ?_)
  refine nd_iload_n hC dX7_drawn_0 rfl ?_
  refine nd_iconst hC (v := nI 2) (by rfl) dX7_drawn_1 ?_
  first | with_reducible refine nd_icmp_neN hC (tgt := 8) (by omega) (by omega) dX7_drawn_2 (by decide) (fun hc => ?_) (fun hc => ?_) | refine nd_icmp_ne hC (tgt := 8) dX7_drawn_2 (by decide) (fun hc => ?_) (fun hc => ?_)
  · rw [if_neg (by omega)] at hk
    refine nd_aload_n hC dX7_drawn_8 rfl rfl ?_
    refine nd_iload_n hC dX7_drawn_9 rfl ?_
    refine nd_iconst hC (v := nI 3) (by rfl) dX7_drawn_10 ?_
    first | with_reducible refine nd_icmp_neN hC (tgt := 19) (by omega) (by omega) dX7_drawn_11 (by decide) (fun hc2 => ?_) (fun hc2 => ?_) | refine nd_icmp_ne hC (tgt := 19) dX7_drawn_11 (by decide) (fun hc2 => ?_) (fun hc2 => ?_)
    · rw [if_neg (by omega)] at hk
      refine nd_iconst hC (v := nI 5) (by rfl) dX7_drawn_19 ?_
      refine mo_callV (As := [_]) (d2 := d - 1) hC hw rfl lkX7_410 lyX7_410 (Nat.le_of_ble_eq_true rfl) (by omega) rfl (by exact Nat.le_of_ble_eq_true rfl) (Nat.zero_le _) (Nat.zero_le _) dX7_drawn_20 rfl ((sp_draw hg hw (by omega) (by omega) ?_))
      intro h2 hw
      refine nd_istore_n hC dX7_drawn_23 (Nat.le_of_ble_eq_true rfl) ?_
      refine nd_iload_n hC dX7_drawn_24 rfl ?_
      refine nd_iconst hC (v := nI 3) (by rfl) dX7_drawn_25 ?_
      first | with_reducible refine nd_icmp_neN hC (tgt := 47) (by omega) (by omega) dX7_drawn_26 (by decide) (fun hc3 => ?_) (fun hc3 => ?_) | refine nd_icmp_ne hC (tgt := 47) dX7_drawn_26 (by decide) (fun hc3 => ?_) (fun hc3 => ?_)
      · refine nd_bipush hC (v := nI 10) (by rfl) dX7_drawn_47 ?_
        refine nd_iconst hC (v := nI 1) (by rfl) dX7_drawn_49 ?_
        refine nd_iload_n hC dX7_drawn_50 rfl ?_
        first | with_reducible refine nd_iaddN hC dX7_drawn_51 ?_ | refine nd_iadd hC dX7_drawn_51 ?_
        first | with_reducible refine nd_imulN hC dX7_drawn_52 ?_ | refine nd_imul hC dX7_drawn_52 ?_
        refine nd_aload_n hC dX7_drawn_53 rfl rfl ?_
        refine nd_iconst hC (v := nI 4) (by rfl) dX7_drawn_54 ?_
        refine mo_callV (As := [_]) (d2 := d - 1) hC hw rfl lkX7_410 lyX7_410 (Nat.le_of_ble_eq_true rfl) (by omega) rfl (by exact Nat.le_of_ble_eq_true rfl) (Nat.zero_le _) (Nat.zero_le _) dX7_drawn_55 rfl ((sp_draw hg hw (by omega) (by omega) ?_))
        intro h3 hw
        rw [va_up_s, va_up_up] at hw
        rw [va_up_s]
        first | with_reducible refine nd_iaddN hC dX7_drawn_58 ?_ | refine nd_iadd hC dX7_drawn_58 ?_
        refine nd_ireturn hC rfl (by first | rfl | exact nd_b_nar _) (by omega) (by omega) dX7_drawn_59 ((hk h3 hw))
      · omega
    · rw [if_pos (by omega)] at hk
      refine nd_bipush hC (v := nI 6) (by rfl) dX7_drawn_14 ?_
      refine nd_goto hC (tgt := 20) dX7_drawn_16 (by decide) ?_
      refine mo_callV (As := [_]) (d2 := d - 1) hC hw rfl lkX7_410 lyX7_410 (Nat.le_of_ble_eq_true rfl) (by omega) rfl (by exact Nat.le_of_ble_eq_true rfl) (Nat.zero_le _) (Nat.zero_le _) dX7_drawn_20 rfl ((sp_draw hg hw (by omega) (by omega) ?_))
      intro h2 hw
      refine nd_istore_n hC dX7_drawn_23 (Nat.le_of_ble_eq_true rfl) ?_
      refine nd_iload_n hC dX7_drawn_24 rfl ?_
      refine nd_iconst hC (v := nI 3) (by rfl) dX7_drawn_25 ?_
      first | with_reducible refine nd_icmp_neN hC (tgt := 47) (by omega) (by omega) dX7_drawn_26 (by decide) (fun hc3 => ?_) (fun hc3 => ?_) | refine nd_icmp_ne hC (tgt := 47) dX7_drawn_26 (by decide) (fun hc3 => ?_) (fun hc3 => ?_)
      · omega
      · refine nd_sipush hC (v := nI 1000) (by rfl) dX7_drawn_29 ?_
        refine nd_bipush hC (v := nI 100) (by rfl) dX7_drawn_32 ?_
        refine nd_iload_n hC dX7_drawn_34 rfl ?_
        first | with_reducible refine nd_imulN hC dX7_drawn_35 ?_ | refine nd_imul hC dX7_drawn_35 ?_
        first | with_reducible refine nd_iaddN hC dX7_drawn_36 ?_ | refine nd_iadd hC dX7_drawn_36 ?_
        refine nd_aload_n hC dX7_drawn_37 rfl rfl ?_
        refine nd_bipush hC (v := nI 100) (by rfl) dX7_drawn_38 ?_
        refine mo_callV (As := [_]) (d2 := d - 1) hC hw rfl lkX7_410 lyX7_410 (Nat.le_of_ble_eq_true rfl) (by omega) rfl (by exact Nat.le_of_ble_eq_true rfl) (Nat.zero_le _) (Nat.zero_le _) dX7_drawn_40 rfl ((sp_draw hg hw (by omega) (by omega) ?_))
        intro h3 hw
        rw [va_up_s, va_up_up] at hw
        rw [va_up_s]
        first | with_reducible refine nd_iaddN hC dX7_drawn_43 ?_ | refine nd_iadd hC dX7_drawn_43 ?_
        refine nd_goto hC (tgt := 59) dX7_drawn_44 (by decide) ?_
        refine nd_ireturn hC rfl (by first | rfl | exact nd_b_nar _) (by omega) (by omega) dX7_drawn_59 ((hk h3 hw))
  · rw [if_pos (by omega)] at hk
    refine nd_bipush hC (v := nI 100) (by rfl) dX7_drawn_5 ?_
    refine nd_ireturn hC rfl (by first | rfl | exact nd_b_nar _) (by omega) (by omega) dX7_drawn_7 ((hk h (by rw [va_up_id]; exact hw)))
end MO32

