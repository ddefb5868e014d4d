set_option maxRecDepth 100000
/-! ===== look; trays, images, feed ===== -/
def lo_mx (f : Nat → Int32) (k : Nat) : Nat → Int32
  | 0 => nI 0
  | m + 1 => if lo_mx f k m < f (100 * k + m) then f (100 * k + m) else lo_mx f k m
def lo_go (f : Nat → Int32) : Nat → Int32 × Int32
  | 0 => (-1, nI 536870912)
  | k + 1 => if lo_mx f k 100 < (lo_go f k).2 then (nI k, lo_mx f k 100) else lo_go f k
noncomputable def op_look (x y : Int32) (S : sy_S) : sy_R := if sn_f x y S = 0 then (0, (if (sn_r S (ty_v x S) y.toNatClampNeg).1 = 0 then -1 else (lo_go (sn_r S (ty_v x S) y.toNatClampNeg).2.2 (ty_v x S).length).1), S) else (sn_f x y S, nI 0, S)
/-- a tray's numbers changed -/
def sy_tr (S : sy_S) (t : Nat) (q : Nat × List Int64) : sy_S := (S.1, S.2.1, (fun i => if i = t then some q else sy_t S i), S.2.2.2)
def op_tray (x y z : Int32) (S : sy_S) : sy_R := if op_in x 0 3 = true then (if (op_in y 0 3 && op_in z 0 30) = true then (0, nI 0, sy_tr S x.toNatClampNeg (y.toNatClampNeg, List.replicate z.toNatClampNeg 0)) else (2, nI 0, S)) else (1, nI 0, S)
def ty_s (x : Int32) (S : sy_S) : Nat := match sy_t S x.toNatClampNeg with | none => 0 | some q => q.1
def op_write (x y : Int32) (v : Int64) (S : sy_S) : Nat × Int64 × sy_S := if ty_f x S = 0 then (if op_in y 0 ((ty_v x S).length - 1) = true then (0, sy_cut (ty_s x S) v, sy_tr S x.toNatClampNeg (ty_s x S, (ty_v x S).set y.toNatClampNeg (sy_cut (ty_s x S) v))) else (3, lN 0, S)) else (ty_f x S, lN 0, S)
abbrev mp_j (f : sy_S → Nat × Int64 × sy_S) : sy_S → Nat × Option Value × sy_S := fun S => ((f S).1, some (.long (f S).2.1), (f S).2.2)
abbrev mp_v (f : sy_S → sy_R) : sy_S → Nat × Option Value × sy_S := fun S => ((f S).1, none, (f S).2.2)
/-- marks above, put into a tray -/
def cp_go (S : sy_S) (so : Nat) (v : List Int64) : Nat → List Int64
  | 0 => v
  | k + 1 => (cp_go S so v k).set k (sy_cut so (lk_mk (sv_fr (sy_c S)) (sv_bk (sy_c S)) (lk_top ((sy_l S).getD k []))).toInt64)
def op_copy (x : Int32) (S : sy_S) : sy_R := if ty_f x S = 0 then (0, nI (min (ty_v x S).length (sy_l S).length), sy_tr S x.toNatClampNeg (ty_s x S, cp_go S (ty_s x S) (ty_v x S) (min (ty_v x S).length (sy_l S).length))) else (ty_f x S, nI 0, S)
def sy_im (S : sy_S) (i : Nat) : sy_S := (S.1, (fun j => if j = i then some S.1 else sy_i S j), S.2.2)
def op_image (x : Int32) (S : sy_S) : sy_R := if op_in x 0 2 = true then (0, nI 0, sy_im S x.toNatClampNeg) else (1, nI 0, S)
def op_restore (x : Int32) (S : sy_S) : sy_R := if op_in x 0 2 = true then (match sy_i S x.toNatClampNeg with | none => (2, nI 0, S) | some P => (0, nI 0, sy_set S P)) else (1, nI 0, S)
/-- four bytes of a number, the greatest first -/
def fe_b (w : Int32) (j : Nat) : Nat := w.toUInt32.toNat / 2 ^ (24 - 8 * j) % 256
def fe_at (a b c d e : Int32) (k : Nat) : Nat := fe_b (if k < 4 then a else if k < 8 then b else if k < 12 then c else if k < 16 then d else e) (k % 4)
def op_feed (a b c d e : Int32) (S : sy_S) : sy_R := if 900 < (sy_b S).length + 20 then (0, -1, S) else (0, nI ((sy_b S).length + 20), (S.1, S.2.1, S.2.2.1, sy_b S ++ (List.range 20).map (fe_at a b c d e), S.2.2.2.2))
theorem fe_ushr {w : Int32} {j : Nat} (hj : j < 4) : ((w.toUInt32 >>> ((nI (24 - 8 * j)).toUInt32 &&& Int32.toUInt32 31)).toInt32) &&& nI 255 = nI (fe_b w j) := by
  have hlt := w.toUInt32.toNat_lt
  obtain ⟨s, hs, es⟩ : ∃ s : UInt32, s.toNat = 24 - 8 * j ∧ ((nI (24 - 8 * j)).toUInt32 &&& Int32.toUInt32 31) = s := by
    obtain rfl | rfl | rfl | rfl : j = 0 ∨ j = 1 ∨ j = 2 ∨ j = 3 := by omega
    all_goals exact ⟨_, by decide, rfl⟩
  rw [es]
  have e2 : (w.toUInt32 >>> s).toNat = w.toUInt32.toNat / 2 ^ (24 - 8 * j) := by
    rw [UInt32.toNat_shiftRight, Nat.shiftRight_eq_div_pow, hs, Nat.mod_eq_of_lt (by omega)]
  have e3 : (w.toUInt32 >>> s).toInt32 = nI (w.toUInt32 >>> s).toNat := by
    exact u_toI _
  rw [e3, nx_and, e2]
  unfold fe_b
  rw [show (255 : Nat) = 2 ^ 8 - 1 from rfl, Nat.and_two_pow_sub_one_eq_mod]
section MO35
variable {g : nd_G} {d : Nat} {K : nd_K} {h h0 : nd_H} {A : Nat → Nat → Int32} {F : Nat → Int32} {B : Nat → Nat → Int64} {f : Nat → Int32}
theorem mp_look (hg : nd_OK g) (hd : 15 ≤ d) (x y : Int32) : mp_ok g h0 mX7_look d [.int x, .int y] (mp_i (op_look x y)) := by
  intro tt S A F B h K ht hI hS hw hk
  have hm3 := sn_f_le x y S
  unfold mp_i op_look at hk
  refine nd_enter hg (by decide) rfl (Nat.le_of_ble_eq_true rfl) (fun X hC => ?_)
  refine nd_aload_n hC dX7_look_0 rfl rfl ?_
  refine nd_aload_n hC dX7_look_1 rfl rfl ?_
  refine nd_iload_n hC dX7_look_2 rfl ?_
  refine nd_iload_n hC dX7_look_3 rfl ?_
  refine mo_callV (As := [_, _]) (d2 := d - 1) hC hw rfl lkX7_558 lyX7_558 (Nat.le_of_ble_eq_true rfl) (by omega) rfl (by exact Nat.le_of_ble_eq_true rfl) (Nat.zero_le _) (Nat.zero_le _) dX7_look_4 rfl ((sp_seenFault hg (by omega) hI hS hw ?_))
  refine mo_put_thrown hC hw rfl dX7_look_7 (fun h hw => ?_)
  refine nd_aload_n hC dX7_look_10 rfl rfl ?_
  refine mo_get_thrown hC hw rfl dX7_look_11 ?_
  rw [va_up_s]
  by_cases h0c : sn_f x y S = 0
  · rw [if_pos h0c] at hk
    obtain ⟨hmk0, hy⟩ := sn_f_0 h0c
    obtain ⟨hf0, hmk⟩ := mk_f_0 hmk0
    obtain ⟨t, q, htt, rfl, eq, ev⟩ := ty_f_0 hf0
    obtain ⟨m, hm4, rfl⟩ := op_in_nat hy
    rw [ev, nI_cl (by omega)] at hk
    rw [ev] at hmk
    have hv6 : q.2.length ≤ 6 := by
      unfold ty_mk at hmk
      rw [Bool.and_eq_true] at hmk
      exact (of_decide_eq_true hmk.1).2
    rw [h0c] at hw ⊢
    have hb := sn_cnt S q.2 m (by omega) hS.1.1.1
    refine nd_if_le hC (tgt := 19) dX7_look_14 (by decide) (fun hq => ?_) (fun hq => ?_)
    · refine nd_aload_n hC dX7_look_19 rfl rfl ?_
      refine nd_iload_n hC dX7_look_20 rfl ?_
      refine nd_iload_n hC dX7_look_21 rfl ?_
      refine mo_callV (As := [_, _]) (d2 := d - 1) hC hw rfl lkX7_561 lyX7_561 (Nat.le_of_ble_eq_true rfl) (by omega) rfl (by exact Nat.le_of_ble_eq_true rfl) (Nat.zero_le _) (Nat.zero_le _) dX7_look_22 rfl ((sp_laysSeen hg (by omega) ht hI.th hS hw htt eq (by omega) ?_))
      intro A3 F3 B3 h3 hI3 e4 e30 e34 e39 hw
      generalize sn_r S q.2 m = R at *
      obtain ⟨-, hm, h30, hnum⟩ := (hI3.2.2.1 t htt).2 q eq
      refine nd_iconst hC (v := -1) (by rfl) dX7_look_25 ?_
      refine nd_istore_n hC dX7_look_26 (Nat.le_of_ble_eq_true rfl) ?_
      refine nd_ldcwI hC q3305 dX7_look_27 ?_
      refine nd_v_eq (y := .int (nI 536870912)) (by rfl) ?_
      refine nd_istore hC dX7_look_30 (Nat.le_of_ble_eq_true rfl) ?_
      refine nd_iconst hC (v := nI 0) (by rfl) dX7_look_32 ?_
      refine nd_istore hC dX7_look_33 (Nat.le_of_ble_eq_true rfl) ?_
      have JE : ∀ (best : Int32) lv4 lv5 lv6 lv7, best = (if R.1 = 0 then -1 else (lo_go R.2.2 q.2.length).1) → nd_W g mX7_look d 0 0 K X 115 [some (.ref 101), some (.int (nI t)), some (.int (nI m)), some (.int best), lv4, lv5, lv6, lv7] [] h3 0 0 := by
        intro best lv4 lv5 lv6 lv7 eb
        subst eb
        refine nd_iload_n hC dX7_look_115 rfl ?_
        refine nd_ireturn hC rfl (by first | rfl | exact nd_b_nar _) (by omega) (by omega) dX7_look_116 ((hk _ _ _ _ (hI3.t (by omega)) (e4.trans rfl) hw))
      by_cases h1 : R.1 = 0
      · refine nd_iload hC dX7_look_35 rfl ?_
        refine nd_aload_n hC dX7_look_37 rfl rfl ?_
        refine mo_get_tMany hC hw rfl dX7_look_38 ?_
        refine nd_iload_n hC dX7_look_41 rfl ?_
        refine nd_ialoadN hC hw.tMany (by omega) (by decide) dX7_look_42 ?_
        rw [hm]
        first | with_reducible refine nd_icmp_geN hC (tgt := 115) (by omega) (by omega) dX7_look_43 (by decide) (fun hq => ?_) (fun hq => ?_) | refine nd_icmp_ge hC (tgt := 115) dX7_look_43 (by decide) (fun hq => ?_) (fun hq => ?_)
        · exact JE _ _ _ _ _ (by rw [if_pos h1])
        · refine nd_aload_n hC dX7_look_46 rfl rfl ?_
          refine mo_get_rowMany hC hw rfl dX7_look_47 ?_
          rw [e30, h1]
          refine nd_if_le hC (tgt := 115) dX7_look_50 (by decide) (fun hq2 => ?_) (fun hq2 => ?_)
          · exact JE _ _ _ _ _ (by rw [if_pos h1])
          · exact absurd (show nI 0 ≤ 0 by decide) hq2
      · have L : ∀ k, k ≤ q.2.length → ∀ lv6 lv7, nd_W g mX7_look d 0 0 K X 35 [some (.ref 101), some (.int (nI t)), some (.int (nI m)), some (.int (lo_go R.2.2 k).1), some (.int (lo_go R.2.2 k).2), some (.int (nI k)), lv6, lv7] [] h3 0 0 := by
          refine nd_for _ _ ?_ ?_
          · intro lv6 lv7
            refine nd_iload hC dX7_look_35 rfl ?_
            refine nd_aload_n hC dX7_look_37 rfl rfl ?_
            refine mo_get_tMany hC hw rfl dX7_look_38 ?_
            refine nd_iload_n hC dX7_look_41 rfl ?_
            refine nd_ialoadN hC hw.tMany (by omega) (by decide) dX7_look_42 ?_
            rw [hm]
            first | with_reducible refine nd_icmp_geN hC (tgt := 115) (by omega) (by omega) dX7_look_43 (by decide) (fun hq => ?_) (fun hq => ?_) | refine nd_icmp_ge hC (tgt := 115) dX7_look_43 (by decide) (fun hq => ?_) (fun hq => ?_)
            · exact JE _ _ _ _ _ (by rw [if_neg h1])
            · omega
          · intro k hk1 ih lv6 lv7
            refine nd_iload hC dX7_look_35 rfl ?_
            refine nd_aload_n hC dX7_look_37 rfl rfl ?_
            refine mo_get_tMany hC hw rfl dX7_look_38 ?_
            refine nd_iload_n hC dX7_look_41 rfl ?_
            refine nd_ialoadN hC hw.tMany (by omega) (by decide) dX7_look_42 ?_
            rw [hm]
            first | with_reducible refine nd_icmp_geN hC (tgt := 115) (by omega) (by omega) dX7_look_43 (by decide) (fun hq => ?_) (fun hq => ?_) | refine nd_icmp_ge hC (tgt := 115) dX7_look_43 (by decide) (fun hq => ?_) (fun hq => ?_)
            · omega
            · refine nd_aload_n hC dX7_look_46 rfl rfl ?_
              refine mo_get_rowMany hC hw rfl dX7_look_47 ?_
              rw [e30]
              refine nd_if_le hC (tgt := 115) dX7_look_50 (by decide) (fun hq2 => ?_) (fun hq2 => ?_)
              · exact absurd hq2 (nI_gt0 (by omega) (by omega))
              · refine nd_iconst hC (v := nI 0) (by rfl) dX7_look_53 ?_
                refine nd_istore hC dX7_look_54 (Nat.le_of_ble_eq_true rfl) ?_
                refine nd_iconst hC (v := nI 0) (by rfl) dX7_look_56 ?_
                refine nd_istore hC dX7_look_57 (Nat.le_of_ble_eq_true rfl) ?_
                have L2 : ∀ j, j ≤ 100 → nd_W g mX7_look d 0 0 K X 59 [some (.ref 101), some (.int (nI t)), some (.int (nI m)), some (.int (lo_go R.2.2 k).1), some (.int (lo_go R.2.2 k).2), some (.int (nI k)), some (.int (lo_mx R.2.2 k j)), some (.int (nI j))] [] h3 0 0 := by
                  refine nd_for _ _ ?_ ?_
                  · refine nd_iload hC dX7_look_59 rfl ?_
                    refine nd_bipush hC (v := nI 100) (by rfl) dX7_look_61 ?_
                    first | with_reducible refine nd_icmp_geN hC (tgt := 92) (by omega) (by omega) dX7_look_63 (by decide) (fun hq3 => ?_) (fun hq3 => ?_) | refine nd_icmp_ge hC (tgt := 92) dX7_look_63 (by decide) (fun hq3 => ?_) (fun hq3 => ?_)
                    · refine nd_iload hC dX7_look_92 rfl ?_
                      refine nd_iload hC dX7_look_94 rfl ?_
                      first | with_reducible refine nd_icmp_ltN hC (tgt := 102) (by omega) (by omega) dX7_look_96 (by decide) (fun hq4 => ?_) (fun hq4 => ?_) | refine nd_icmp_lt hC (tgt := 102) dX7_look_96 (by decide) (fun hq4 => ?_) (fun hq4 => ?_)
                      · have e : lo_go R.2.2 (k + 1) = (nI k, lo_mx R.2.2 k 100) := by show (if _ then _ else _) = _; rw [if_pos hq4]
                        refine nd_iload hC dX7_look_102 rfl ?_
                        refine nd_istore_n hC dX7_look_104 (Nat.le_of_ble_eq_true rfl) ?_
                        refine nd_iload hC dX7_look_105 rfl ?_
                        refine nd_istore hC dX7_look_107 (Nat.le_of_ble_eq_true rfl) ?_
                        first | with_reducible refine nd_iincN hC dX7_look_109 rfl (Nat.le_of_ble_eq_true rfl) ?_ | refine nd_iinc hC dX7_look_109 rfl rfl (Nat.le_of_ble_eq_true rfl) ?_
                        refine nd_goto hC (tgt := 35) dX7_look_112 (by decide) ?_
                        rw [e] at ih
                        exact ih _ _
                      · have e : lo_go R.2.2 (k + 1) = lo_go R.2.2 k := by show (if _ then _ else _) = _; rw [if_neg hq4]
                        refine nd_goto hC (tgt := 109) dX7_look_99 (by decide) ?_
                        first | with_reducible refine nd_iincN hC dX7_look_109 rfl (Nat.le_of_ble_eq_true rfl) ?_ | refine nd_iinc hC dX7_look_109 rfl rfl (Nat.le_of_ble_eq_true rfl) ?_
                        refine nd_goto hC (tgt := 35) dX7_look_112 (by decide) ?_
                        rw [e] at ih
                        exact ih _ _
                    · omega
                  · intro j hj ih2
                    refine nd_iload hC dX7_look_59 rfl ?_
                    refine nd_bipush hC (v := nI 100) (by rfl) dX7_look_61 ?_
                    first | with_reducible refine nd_icmp_geN hC (tgt := 92) (by omega) (by omega) dX7_look_63 (by decide) (fun hq3 => ?_) (fun hq3 => ?_) | refine nd_icmp_ge hC (tgt := 92) dX7_look_63 (by decide) (fun hq3 => ?_) (fun hq3 => ?_)
                    · omega
                    · refine nd_iload hC dX7_look_66 rfl ?_
                      refine nd_aload_n hC dX7_look_68 rfl rfl ?_
                      refine mo_get_beneathHow hC hw rfl dX7_look_69 ?_
                      refine nd_bipush hC (v := nI 100) (by rfl) dX7_look_72 ?_
                      refine nd_iload hC dX7_look_74 rfl ?_
                      first | with_reducible refine nd_imulN hC dX7_look_76 ?_ | refine nd_imul hC dX7_look_76 ?_
                      refine nd_iload hC dX7_look_77 rfl ?_
                      first | with_reducible refine nd_iaddN hC dX7_look_79 ?_ | refine nd_iadd hC dX7_look_79 ?_
                      refine nd_ialoadN hC hw.beneathHow (by omega) (by decide) dX7_look_80 ?_
                      rw [e39 _ (by omega)]
                      first | ((with_reducible refine nd_tst2 ?_); refine nd_mmaxN hC (by omega) (by omega) q3022 (by omega) (by omega) (by exact Nat.le_of_ble_eq_true rfl) dX7_look_81 ?_) | refine nd_mmax hC q3022 (by omega) (by omega) (by exact Nat.le_of_ble_eq_true rfl) dX7_look_81 ?_
                      refine nd_istore hC dX7_look_84 (Nat.le_of_ble_eq_true rfl) ?_
                      first | with_reducible refine nd_iincN hC dX7_look_86 rfl (Nat.le_of_ble_eq_true rfl) ?_ | refine nd_iinc hC dX7_look_86 rfl rfl (Nat.le_of_ble_eq_true rfl) ?_
                      refine nd_goto hC (tgt := 59) dX7_look_89 (by decide) ?_
                      exact ih2
                exact L2 0 (Nat.zero_le _)
        exact L 0 (Nat.zero_le _) _ _
    · exact absurd hq (by decide)
  · rw [if_neg h0c] at hk
    refine nd_if_le hC (tgt := 19) dX7_look_14 (by decide) (fun hq => ?_) (fun hq => ?_)
    · exact absurd hq (nI_gt0 (by omega) (by omega))
    · refine nd_iconst hC (v := nI 0) (by rfl) dX7_look_17 ?_
      refine nd_ireturn hC rfl (by first | rfl | exact nd_b_nar _) (by omega) (by omega) dX7_look_18 ((hk A _ B _ (hI.th.t (by omega)) (va_up_s _ _ _) hw))
end MO35

