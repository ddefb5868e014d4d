set_option maxRecDepth 100000
theorem cut8 (x : BitVec 64) : (x <<< 56).sshiftRight 56 = (((x.signExtend 32).signExtend 8).signExtend 32).signExtend 64 := by
  apply BitVec.eq_of_getLsbD_eq
  intro i hi
  simp only [BitVec.getLsbD_sshiftRight, BitVec.getLsbD_signExtend, BitVec.getLsbD_shiftLeft, BitVec.msb_eq_getLsbD_last]
  by_cases h : i < 8
  · simp [show i < 32 by omega, h, show 56 + i < 64 by omega, show ¬ (64 ≤ i) by omega, show ¬ (56 + i < 56) by omega, hi, Nat.add_sub_cancel_left]
  · by_cases h2 : i < 32
    · simp [h, h2, show ¬ (56 + i < 64) by omega, hi, Nat.add_sub_cancel_left]
    · simp [h, h2, show ¬ (56 + i < 64) by omega, hi, Nat.add_sub_cancel_left]
theorem cut16 (x : BitVec 64) : (x <<< 48).sshiftRight 48 = (((x.signExtend 32).signExtend 16).signExtend 32).signExtend 64 := by
  apply BitVec.eq_of_getLsbD_eq
  intro i hi
  simp only [BitVec.getLsbD_sshiftRight, BitVec.getLsbD_signExtend, BitVec.getLsbD_shiftLeft, BitVec.msb_eq_getLsbD_last]
  by_cases h : i < 16
  · simp [show i < 32 by omega, h, show 48 + i < 64 by omega, show ¬ (64 ≤ i) by omega, show ¬ (48 + i < 48) by omega, hi, Nat.add_sub_cancel_left]
  · by_cases h2 : i < 32
    · simp [h, h2, show ¬ (48 + i < 64) by omega, hi, Nat.add_sub_cancel_left]
    · simp [h, h2, show ¬ (48 + i < 64) by omega, hi, Nat.add_sub_cancel_left]
theorem cut32 (x : BitVec 64) : (x <<< 32).sshiftRight 32 = (x.signExtend 32).signExtend 64 := by
  apply BitVec.eq_of_getLsbD_eq
  intro i hi
  simp only [BitVec.getLsbD_sshiftRight, BitVec.getLsbD_signExtend, BitVec.getLsbD_shiftLeft, BitVec.msb_eq_getLsbD_last]
  by_cases h : i < 32
  · simp [h, show 32 + i < 64 by omega, show ¬ (64 ≤ i) by omega, show ¬ (32 + i < 32) by omega, hi, Nat.add_sub_cancel_left]
  · simp [h, show ¬ (32 + i < 64) by omega, hi, Nat.add_sub_cancel_left]
theorem cut_sh (v : Int64) (k : Nat) (s : Int64) (hs : (Int64.toBitVec s).smod 64 = BitVec.ofNat 64 k) (hk : k < 64) : ((v <<< s) >>> s).toBitVec = (v.toBitVec <<< k).sshiftRight k := by
  rw [Int64.toBitVec_shiftRight, Int64.toBitVec_shiftLeft, hs]
  rw [BitVec.sshiftRight_eq', BitVec.shiftLeft_eq']
  rw [BitVec.toNat_ofNat, Nat.mod_eq_of_lt (by omega)]
theorem cut_shift (so : Nat) (v : Int64) (h : so < 4) : ∃ le, le ≤ 64 ∧ nI 8 <<< (nI so &&& 31) = nI le ∧ (v <<< ((nI (64 - le)).toInt64 &&& 63)) >>> ((nI (64 - le)).toInt64 &&& 63) = sy_cut so v := by
  obtain rfl | rfl | rfl | rfl : so = 0 ∨ so = 1 ∨ so = 2 ∨ so = 3 := by omega
  · refine ⟨8, by omega, by decide, ?_⟩
    apply Int64.toBitVec_inj.1
    rw [cut_sh v 56 _ (by decide) (by decide), cut8]; rfl
  · refine ⟨16, by omega, by decide, ?_⟩
    apply Int64.toBitVec_inj.1
    rw [cut_sh v 48 _ (by decide) (by decide), cut16]; rfl
  · refine ⟨32, by omega, by decide, ?_⟩
    apply Int64.toBitVec_inj.1
    rw [cut_sh v 32 _ (by decide) (by decide), cut32]; rfl
  · refine ⟨64, by omega, by decide, ?_⟩
    apply Int64.toBitVec_inj.1
    rw [cut_sh v 0 _ (by decide) (by decide)]; simp [sy_cut]
theorem updL_s (f : Nat → Int64) (j : Nat) (x : Int64) : vp_updL f j x j = x := by simp [vp_updL]
theorem updL_n {f : Nat → Int64} {j i : Nat} {x : Int64} (h : i ≠ j) : vp_updL f j x i = f i := by simp [vp_updL, h]
theorem sy_tr_tr (S : sy_S) (t : Nat) (q q2 : Nat × List Int64) : sy_tr (sy_tr S t q) t q2 = sy_tr S t q2 := by
  have e : (fun i => if i = t then some q2 else (if i = t then some q else sy_t S i)) = (fun i => if i = t then some q2 else sy_t S i) := by
    funext i
    by_cases h : i = t
    · rw [if_pos h, if_pos h]
    · rw [if_neg h, if_neg h, if_neg h]
  show (S.1, S.2.1, (fun i => if i = t then some q2 else (if i = t then some q else sy_t S i)), S.2.2.2) = (S.1, S.2.1, (fun i => if i = t then some q2 else sy_t S i), S.2.2.2)
  rw [e]
theorem sy_tr_id {S : sy_S} {t : Nat} {q : Nat × List Int64} (h : sy_t S t = some q) : sy_tr S t q = S := by
  have e : (fun i => if i = t then some q else sy_t S i) = sy_t S := by
    funext i
    by_cases hi : i = t
    · rw [if_pos hi, hi, h]
    · rw [if_neg hi]
  show (S.1, S.2.1, (fun i => if i = t then some q else sy_t S i), S.2.2.2) = S
  rw [e]
theorem sy_tr_ok {S : sy_S} {t : Nat} {q : Nat × List Int64} (hS : sy_ok S) (h4 : q.1 < 4) (h30 : q.2.length ≤ 30) : sy_ok (sy_tr S t q) := by
  refine ⟨hS.1, hS.2.1, fun i hi q2 e => ?_, hS.2.2.2⟩
  have e : (if i = t then some q else sy_t S i) = some q2 := e
  by_cases h : i = t
  · rw [if_pos h] at e
    obtain rfl := Option.some.inj e
    exact ⟨h4, h30⟩
  · rw [if_neg h] at e; exact hS.2.2.1 i hi q2 e
section MO36
variable {g : nd_G} {d : Nat} {K : nd_K} {h h0 : nd_H} {A : Nat → Nat → Int32} {F : Nat → Int32} {B : Nat → Nat → Int64} {f : Nat → Int32}
theorem mo_I.trs {tt t : Nat} {S : sy_S} {q : Nat × List Int64} {f40 f41 : Nat → Int32} {b42 : Nat → Int64} (hI : mo_I tt S A F B) (hS : sy_ok S) (ht : t < 4) (eS : f40 t = nI q.1) (eM : f41 t = nI q.2.length) (h30 : q.2.length ≤ 30) (hnum : ∀ k, k < q.2.length → b42 (30 * t + k) = q.2.getD k 0)
    (o40 : ∀ i, i ≠ t → f40 i = A 40 i) (o41 : ∀ i, i ≠ t → f41 i = A 41 i) (o42 : ∀ i, ¬ (30 * t ≤ i ∧ i < 30 * t + 30) → b42 i = B 42 i) : mo_I tt (sy_tr S t q) (va_up (va_up A 40 f40) 41 f41) F (va_up B 42 b42) := by
  obtain ⟨h1, h2, h3, h4⟩ := hI
  refine ⟨h1, h2, fun i hi => ?_, h4⟩
  show ((if i = t then some q else sy_t S i) = none → f40 i = -1) ∧ ∀ q2, (if i = t then some q else sy_t S i) = some q2 → f40 i = nI q2.1 ∧ f41 i = nI q2.2.length ∧ q2.2.length ≤ 30 ∧ ∀ k, k < q2.2.length → b42 (30 * i + k) = q2.2.getD k 0
  by_cases e : i = t
  · subst e
    rw [if_pos rfl]
    refine ⟨fun q => absurd q (by simp), fun q2 e => ?_⟩
    obtain rfl := Option.some.inj e
    exact ⟨eS, eM, h30, hnum⟩
  · rw [if_neg e]
    refine ⟨fun q => (o40 i e).trans ((h3 i hi).1 q), fun q2 e2 => ?_⟩
    obtain ⟨a1, a2, a3, a4⟩ := (h3 i hi).2 q2 e2
    refine ⟨(o40 i e).trans a1, (o41 i e).trans a2, a3, fun k hk => ?_⟩
    rw [o42 _ (by omega)]; exact a4 k hk
/-- one number of a tray -/
theorem mo_I.cut {tt t place so : Nat} {S : sy_S} {v : List Int64} {w : Int64} (hI : mo_I tt S A F B) (hS : sy_ok S) (ht : t < 4) (e : sy_t S t = some (so, v)) (hp : place < v.length) : mo_I tt (sy_tr S t (so, v.set place w)) A F (va_up B 42 (vp_updL (B 42) (30 * t + place) w)) := by
  obtain ⟨a1, a2, a3, a4⟩ := (hI.2.2.1 t ht).2 _ e
  have a2 : A 41 t = nI v.length := a2
  have a3 : v.length ≤ 30 := a3
  have := hI.trs (f40 := A 40) (f41 := A 41) (b42 := vp_updL (B 42) (30 * t + place) w) (q := (so, v.set place w)) hS ht a1 (by show _ = nI (v.set place w).length; rw [List.length_set]; exact a2) (by show (v.set place w).length ≤ 30; rw [List.length_set]; exact a3) (fun k hk => ?_) (fun _ _ => rfl) (fun _ _ => rfl) (fun i hi => updL_n (by omega))
  · rw [va_up_id, va_up_id] at this; exact this
  · have hk : k < (v.set place w).length := hk
    rw [List.length_set] at hk
    show _ = (v.set place w).getD k 0
    rw [List.getD_eq_getElem?_getD, List.getElem?_set]
    by_cases q : place = k
    · subst q; rw [if_pos rfl, if_pos hp, updL_s]; rfl
    · rw [if_neg q, updL_n (by omega), ← List.getD_eq_getElem?_getD]; exact a4 k hk
theorem mp_tray (hg : nd_OK g) (hd : 2 ≤ d) (x y z : Int32) : mp_ok g h0 mX7_tray d [.int x, .int y, .int z] (mp_v (op_tray x y z)) := by
  intro tt S A F B h K ht hI hS hw hk
  unfold mp_v op_tray at hk
  have JE : ∀ e : Nat, 1 ≤ e → e ≤ 2 → (∀ A2 F2 B2 h2, mo_I (tt + 4) S A2 F2 B2 → F2 4 = nI e → mo_W h0 A2 F2 B2 h2 → K (.inl none) h2) → ∀ X, nd_Cx g mX7_tray X → nd_W g mX7_tray d 0 0 K X 41 [some (.ref 101), some (.int x), some (.int y), some (.int z), none] [.int (nI e), .ref 101] h 0 0 := by
    intro e e1 e3 hk X hC
    refine mo_put_thrown hC hw rfl dX7_tray_41 (fun h hw => ?_)
    refine nd_aload_n hC dX7_tray_44 rfl rfl ?_
    refine mo_get_thrown hC hw rfl dX7_tray_45 ?_
    rw [va_up_s]
    refine nd_if_le hC (tgt := 52) dX7_tray_48 (by decide) (fun hq => ?_) (fun hq => ?_)
    · exact absurd hq (nI_gt0 e1 (by omega))
    · refine nd_return hC rfl (by omega) (by omega) dX7_tray_51 ((hk A _ B _ (hI.th.t (by omega)) (va_up_s _ _ _) hw))
  refine nd_enter hg (by decide) rfl (Nat.le_of_ble_eq_true rfl) (fun X hC => ?_)
  refine nd_aload_n hC dX7_tray_0 rfl rfl ?_
  refine nd_iload_n hC dX7_tray_1 rfl ?_
  refine mo_callS (As := [_]) (d2 := d - 1) hC rfl lkX7_372 lyX7_372 (Nat.le_of_ble_eq_true rfl) (by omega) rfl (by exact Nat.le_of_ble_eq_true rfl) (Nat.zero_le _) (Nat.zero_le _) dX7_tray_2 rfl ((sp_isTray hg (by omega) ?_))
  first | with_reducible refine nd_if_neB hC (tgt := 12) dX7_tray_5 (by decide) (fun hc => ?_) (fun hc => ?_) | with_reducible refine nd_if_neN hC (tgt := 12) (by omega) dX7_tray_5 (by decide) (fun hc => ?_) (fun hc => ?_) | refine nd_if_ne hC (tgt := 12) dX7_tray_5 (by decide) (fun hc => ?_) (fun hc => ?_)
  · rw [if_pos hc] at hk
    obtain ⟨t, ht4, rfl⟩ := op_in_nat hc
    refine nd_iload_n hC dX7_tray_12 rfl ?_
    first | with_reducible refine nd_i2lN hC (by omega) dX7_tray_13 ?_ | refine nd_i2l hC dX7_tray_13 ?_
    refine nd_lconst hC (v := lN 0) (by rfl) dX7_tray_14 ?_
    refine nd_ldc2 hC q3150 dX7_tray_15 ?_
    refine nd_v_eq (y := .long (lN 3)) (by rfl) ?_
    refine mo_callS (As := [_, _, _]) (d2 := d - 1) hC rfl lkX7_138 lyX7_138 (Nat.le_of_ble_eq_true rfl) (by omega) rfl (by exact Nat.le_of_ble_eq_true rfl) (Nat.zero_le _) (Nat.zero_le _) dX7_tray_18 rfl ((sp_within hg ?_))
    have e : (decide (lN 0 ≤ y.toInt64) && decide (y.toInt64 ≤ lN 3)) = op_in y 0 3 := by
      unfold op_in
      rw [Bool.eq_iff_iff, Bool.and_eq_true, nd_lle, nd_lle, nd_tl, lN_toInt (by decide), lN_toInt (by decide), decide_eq_true_iff]
      omega
    rw [e]
    first | with_reducible refine nd_if_eqB hC (tgt := 36) dX7_tray_21 (by decide) (fun hy => ?_) (fun hy => ?_) | with_reducible refine nd_if_eqN hC (tgt := 36) (by omega) dX7_tray_21 (by decide) (fun hy => ?_) (fun hy => ?_) | refine nd_if_eq hC (tgt := 36) dX7_tray_21 (by decide) (fun hy => ?_) (fun hy => ?_)
    · rw [hy, Bool.false_and, if_neg (by decide)] at hk
      refine nd_iconst hC (v := nI 2) (by rfl) dX7_tray_36 ?_
      refine nd_goto hC (tgt := 41) dX7_tray_37 (by decide) ?_
      exact JE 2 (by omega) (by omega) hk X hC
    · rw [hy, Bool.true_and] at hk
      refine nd_iload_n hC dX7_tray_24 rfl ?_
      first | with_reducible refine nd_i2lN hC (by omega) dX7_tray_25 ?_ | refine nd_i2l hC dX7_tray_25 ?_
      refine nd_lconst hC (v := lN 0) (by rfl) dX7_tray_26 ?_
      refine nd_ldc2 hC q3219 dX7_tray_27 ?_
      refine nd_v_eq (y := .long (lN 30)) (by rfl) ?_
      refine mo_callS (As := [_, _, _]) (d2 := d - 1) hC rfl lkX7_138 lyX7_138 (Nat.le_of_ble_eq_true rfl) (by omega) rfl (by exact Nat.le_of_ble_eq_true rfl) (Nat.zero_le _) (Nat.zero_le _) dX7_tray_30 rfl ((sp_within hg ?_))
      have e : (decide (lN 0 ≤ z.toInt64) && decide (z.toInt64 ≤ lN 30)) = op_in z 0 30 := by
        unfold op_in
        rw [Bool.eq_iff_iff, Bool.and_eq_true, nd_lle, nd_lle, nd_tl, lN_toInt (by decide), lN_toInt (by decide), decide_eq_true_iff]
        omega
      rw [e]
      first | with_reducible refine nd_if_neB hC (tgt := 40) dX7_tray_33 (by decide) (fun hz => ?_) (fun hz => ?_) | with_reducible refine nd_if_neN hC (tgt := 40) (by omega) dX7_tray_33 (by decide) (fun hz => ?_) (fun hz => ?_) | refine nd_if_ne hC (tgt := 40) dX7_tray_33 (by decide) (fun hz => ?_) (fun hz => ?_)
      · rw [if_pos hz] at hk
        obtain ⟨b, hb, rfl⟩ := op_in_nat hy
        obtain ⟨c, hc3, rfl⟩ := op_in_nat hz
        rw [nI_cl (by omega), nI_cl (by omega), nI_cl (by omega)] at hk
        refine nd_iconst hC (v := nI 0) (by rfl) dX7_tray_40 ?_
        refine mo_put_thrown hC hw rfl dX7_tray_41 (fun h hw => ?_)
        refine nd_aload_n hC dX7_tray_44 rfl rfl ?_
        refine mo_get_thrown hC hw rfl dX7_tray_45 ?_
        rw [va_up_s]
        refine nd_if_le hC (tgt := 52) dX7_tray_48 (by decide) (fun hq => ?_) (fun hq => ?_)
        · refine nd_aload_n hC dX7_tray_52 rfl rfl ?_
          refine mo_get_tSort hC hw rfl dX7_tray_53 ?_
          refine nd_iload_n hC dX7_tray_56 rfl ?_
          refine nd_iload_n hC dX7_tray_57 rfl ?_
          refine mo_ast_tSort hC hw (by omega) dX7_tray_58 (fun h hw => ?_)
          try simp only [va_up_up, va_up_s] at hw
          refine nd_aload_n hC dX7_tray_59 rfl rfl ?_
          refine mo_get_tMany hC hw rfl dX7_tray_60 ?_
          refine nd_iload_n hC dX7_tray_63 rfl ?_
          refine nd_iload_n hC dX7_tray_64 rfl ?_
          refine mo_ast_tMany hC hw (by omega) dX7_tray_65 (fun h hw => ?_)
          try simp only [va_up_up, va_up_s] at hw
          refine nd_iconst hC (v := nI 0) (by rfl) dX7_tray_66 ?_
          refine nd_istore hC dX7_tray_67 (Nat.le_of_ble_eq_true rfl) ?_
          have L : ∀ k, k ≤ 30 → ∀ b2 h2, (∀ i, i < k → b2 (30 * t + i) = 0) → (∀ i, ¬ (30 * t ≤ i ∧ i < 30 * t + 30) → b2 i = B 42 i) → mo_W h0 (va_up (va_up A 40 (upd (A 40) t (nI b))) 41 (upd (A 41) t (nI c))) (va_up F 4 (nI 0)) (va_up B 42 b2) h2 → nd_W g mX7_tray d 0 0 K X 69 [some (.ref 101), some (.int (nI t)), some (.int (nI b)), some (.int (nI c)), some (.int (nI k))] [] h2 0 0 := by
            refine nd_for _ _ ?_ ?_
            · intro b2 h e1 e2 hw
              refine nd_iload hC dX7_tray_69 rfl ?_
              refine nd_bipush hC (v := nI 30) (by rfl) dX7_tray_71 ?_
              first | with_reducible refine nd_icmp_geN hC (tgt := 95) (by omega) (by omega) dX7_tray_73 (by decide) (fun hq => ?_) (fun hq => ?_) | refine nd_icmp_ge hC (tgt := 95) dX7_tray_73 (by decide) (fun hq => ?_) (fun hq => ?_)
              · have hI2 := (hI.th (v := nI 0)).trs (q := (b, List.replicate c 0)) hS (show t < 4 by omega) (f40 := upd (A 40) t (nI b)) (f41 := upd (A 41) t (nI c)) (b42 := b2) (upd_s ..) (by rw [upd_s, List.length_replicate]) (by rw [List.length_replicate]; omega) (fun k hk => by
                  have hk : k < (List.replicate c (0 : Int64)).length := hk
                  rw [List.length_replicate] at hk
                  show _ = (List.replicate c (0 : Int64)).getD k 0
                  rw [e1 k (by omega), List.getD_eq_getElem?_getD, List.getElem?_replicate, if_pos hk]; rfl) (fun i hi => upd_n hi) (fun i hi => upd_n hi) e2
                refine nd_return hC rfl (by omega) (by omega) dX7_tray_95 ((hk _ _ _ h (hI2.t (by omega)) (va_up_s _ _ _) hw))
              · omega
            · intro k hk1 ih b2 h e1 e2 hw
              refine nd_iload hC dX7_tray_69 rfl ?_
              refine nd_bipush hC (v := nI 30) (by rfl) dX7_tray_71 ?_
              first | with_reducible refine nd_icmp_geN hC (tgt := 95) (by omega) (by omega) dX7_tray_73 (by decide) (fun hq => ?_) (fun hq => ?_) | refine nd_icmp_ge hC (tgt := 95) dX7_tray_73 (by decide) (fun hq => ?_) (fun hq => ?_)
              · omega
              · refine nd_aload_n hC dX7_tray_76 rfl rfl ?_
                refine mo_get_numbers hC hw rfl dX7_tray_77 ?_
                refine nd_bipush hC (v := nI 30) (by rfl) dX7_tray_80 ?_
                refine nd_iload_n hC dX7_tray_82 rfl ?_
                first | with_reducible refine nd_imulN hC dX7_tray_83 ?_ | refine nd_imul hC dX7_tray_83 ?_
                refine nd_iload hC dX7_tray_84 rfl ?_
                first | with_reducible refine nd_iaddN hC dX7_tray_86 ?_ | refine nd_iadd hC dX7_tray_86 ?_
                refine nd_lconst hC (v := lN 0) (by rfl) dX7_tray_87 ?_
                refine mo_ast_numbers hC hw (by omega) dX7_tray_88 (fun h hw => ?_)
                try simp only [va_up_up, va_up_s] at hw
                first | with_reducible refine nd_iincN hC dX7_tray_89 rfl (Nat.le_of_ble_eq_true rfl) ?_ | refine nd_iinc hC dX7_tray_89 rfl rfl (Nat.le_of_ble_eq_true rfl) ?_
                refine nd_goto hC (tgt := 69) dX7_tray_92 (by decide) ?_
                refine ih _ h (fun i hi => ?_) (fun i hi => by rw [updL_n (by omega)]; exact e2 i hi) hw
                by_cases e : i = k
                · subst e; rw [updL_s]; rfl
                · rw [updL_n (by omega)]; exact e1 i (by omega)
          exact L 0 (Nat.zero_le _) (B 42) h (fun i hi => absurd hi (Nat.not_lt_zero _)) (fun _ _ => rfl) (by rw [va_up_id]; exact hw)
        · exact absurd hq (by decide)
      · rw [if_neg (by rw [hz]; decide)] at hk
        refine nd_iconst hC (v := nI 2) (by rfl) dX7_tray_36 ?_
        refine nd_goto hC (tgt := 41) dX7_tray_37 (by decide) ?_
        exact JE 2 (by omega) (by omega) hk X hC
  · rw [if_neg (by rw [hc]; decide)] at hk
    refine nd_iconst hC (v := nI 1) (by rfl) dX7_tray_8 ?_
    refine nd_goto hC (tgt := 41) dX7_tray_9 (by decide) ?_
    exact JE 1 (by omega) (by omega) hk X hC
theorem sp_cut (hg : nd_OK g) (hw : mo_W h0 A F B h) {t place so : Nat} {v : Int64} (ht : t < 4) (hp : place < 30) (hso : so < 4) (e40 : A 40 t = nI so) (hk : ∀ h2, mo_W h0 A F (va_up B 42 (vp_updL (B 42) (30 * t + place) (sy_cut so v))) h2 → K (.inl (some (.long (sy_cut so v)))) h2) : nd_M g mX7_cut d 0 0 [.ref 101, .int (nI t), .int (nI place), .long v] h K := by
  refine nd_enter hg (by decide) rfl (Nat.le_of_ble_eq_true rfl) (fun X hC => ?_)
  refine nd_bipush hC (v := nI 64) (by rfl) dX7_cut_0 ?_
  refine nd_bipush hC (v := nI 8) (by rfl) dX7_cut_2 ?_
  refine nd_aload_n hC dX7_cut_4 rfl rfl ?_
  refine mo_get_tSort hC hw rfl dX7_cut_5 ?_
  refine nd_iload_n hC dX7_cut_8 rfl ?_
  refine nd_ialoadN hC hw.tSort (by omega) (by decide) dX7_cut_9 ?_
  rw [e40]
  obtain ⟨le, hle64, hle, ecut⟩ := cut_shift so v hso
  refine nd_ishl hC dX7_cut_10 ?_
  rw [hle]
  first | with_reducible refine nd_isubN hC (by omega) dX7_cut_11 ?_ | refine nd_isub hC dX7_cut_11 ?_
  refine nd_istore hC dX7_cut_12 (Nat.le_of_ble_eq_true rfl) ?_
  refine nd_aload_n hC dX7_cut_14 rfl rfl ?_
  refine mo_get_numbers hC hw rfl dX7_cut_15 ?_
  refine nd_bipush hC (v := nI 30) (by rfl) dX7_cut_18 ?_
  refine nd_iload_n hC dX7_cut_20 rfl ?_
  first | with_reducible refine nd_imulN hC dX7_cut_21 ?_ | refine nd_imul hC dX7_cut_21 ?_
  refine nd_iload_n hC dX7_cut_22 rfl ?_
  first | with_reducible refine nd_iaddN hC dX7_cut_23 ?_ | refine nd_iadd hC dX7_cut_23 ?_
  refine nd_lload_n hC dX7_cut_24 rfl ?_
  refine nd_iload hC dX7_cut_25 rfl ?_
  refine nd_lshl hC dX7_cut_27 ?_
  refine nd_iload hC dX7_cut_28 rfl ?_
  refine nd_lshr hC dX7_cut_30 ?_
  rw [ecut]
  refine mo_ast_numbers hC hw (by omega) dX7_cut_31 (fun h hw => ?_)
  try simp only [va_up_up, va_up_s] at hw
  refine nd_aload_n hC dX7_cut_32 rfl rfl ?_
  refine mo_get_numbers hC hw rfl dX7_cut_33 ?_
  refine nd_bipush hC (v := nI 30) (by rfl) dX7_cut_36 ?_
  refine nd_iload_n hC dX7_cut_38 rfl ?_
  first | with_reducible refine nd_imulN hC dX7_cut_39 ?_ | refine nd_imul hC dX7_cut_39 ?_
  refine nd_iload_n hC dX7_cut_40 rfl ?_
  first | with_reducible refine nd_iaddN hC dX7_cut_41 ?_ | refine nd_iadd hC dX7_cut_41 ?_
  refine nd_laloadN hC hw.numbers (by omega) (by decide) dX7_cut_42 ?_
  rw [va_up_s, updL_s]
  refine nd_lreturn hC rfl (by omega) (by omega) dX7_cut_43 ((hk h hw))
theorem mp_write (hg : nd_OK g) (hd : 3 ≤ d) (x y : Int32) (v : Int64) : mp_ok g h0 mX7_write d [.int x, .int y, .long v] (mp_j (op_write x y v)) := by
  intro tt S A F B h K ht hI hS hw hk
  have hf2 := ty_f_le x S
  unfold mp_j op_write at hk
  refine nd_enter hg (by decide) rfl (Nat.le_of_ble_eq_true rfl) (fun X hC => ?_)
  refine nd_aload_n hC dX7_write_0 rfl rfl ?_
  refine nd_aload_n hC dX7_write_1 rfl rfl ?_
  refine nd_iload_n hC dX7_write_2 rfl ?_
  refine mo_callV (As := [_]) (d2 := d - 1) hC hw rfl lkX7_389 lyX7_389 (Nat.le_of_ble_eq_true rfl) (by omega) rfl (by exact Nat.le_of_ble_eq_true rfl) (Nat.zero_le _) (Nat.zero_le _) dX7_write_3 rfl ((sp_trayFault hg (by omega) hI hS hw ?_))
  refine mo_put_thrown hC hw rfl dX7_write_6 (fun h hw => ?_)
  refine nd_aload_n hC dX7_write_9 rfl rfl ?_
  refine mo_get_thrown hC hw rfl dX7_write_10 ?_
  rw [va_up_s]
  by_cases hc : ty_f x S = 0
  · rw [if_pos hc] at hk
    rw [hc] at hw ⊢
    obtain ⟨t, q, htt, rfl, eq, ev⟩ := ty_f_0 hc
    have es : ty_s (nI t) S = q.1 := by unfold ty_s; rw [nI_cl (by omega), eq]
    rw [ev, es, nI_cl (by omega)] at hk
    obtain ⟨e40, hm, h30, hnum⟩ := (hI.2.2.1 t htt).2 q eq
    have h4 := (hS.2.2.1 t htt q eq).1
    refine nd_if_le hC (tgt := 18) dX7_write_13 (by decide) (fun hq => ?_) (fun hq => ?_)
    · refine nd_iload_n hC dX7_write_18 rfl ?_
      first | with_reducible refine nd_i2lN hC (by omega) dX7_write_19 ?_ | refine nd_i2l hC dX7_write_19 ?_
      refine nd_lconst hC (v := lN 0) (by rfl) dX7_write_20 ?_
      refine nd_aload_n hC dX7_write_21 rfl rfl ?_
      refine mo_get_tMany hC hw rfl dX7_write_22 ?_
      refine nd_iload_n hC dX7_write_25 rfl ?_
      refine nd_ialoadN hC hw.tMany (by omega) (by decide) dX7_write_26 ?_
      rw [hm]
      refine nd_iconst hC (v := nI 1) (by rfl) dX7_write_27 ?_
      first | with_reducible refine nd_isubN hC (by omega) dX7_write_28 ?_ | refine nd_isub hC dX7_write_28 ?_
      first | with_reducible refine nd_i2lN hC (by omega) dX7_write_29 ?_ | refine nd_i2l hC dX7_write_29 ?_
      refine mo_callS (As := [_, _, _]) (d2 := d - 1) hC rfl lkX7_138 lyX7_138 (Nat.le_of_ble_eq_true rfl) (by omega) rfl (by exact Nat.le_of_ble_eq_true rfl) (Nat.zero_le _) (Nat.zero_le _) dX7_write_30 rfl ((sp_within hg ?_))
      have e : (decide (lN 0 ≤ y.toInt64) && decide (y.toInt64 ≤ (nI q.2.length - nI 1).toInt64)) = op_in y 0 (q.2.length - 1) := by
        unfold op_in
        rw [Bool.eq_iff_iff, Bool.and_eq_true, nd_lle, nd_lle, nd_tl, nd_tl, nd_ti (by omega) (by omega), lN_toInt (by decide), decide_eq_true_iff]
        omega
      rw [e]
      first | with_reducible refine nd_if_eqB hC (tgt := 46) dX7_write_33 (by decide) (fun hy => ?_) (fun hy => ?_) | with_reducible refine nd_if_eqN hC (tgt := 46) (by omega) dX7_write_33 (by decide) (fun hy => ?_) (fun hy => ?_) | refine nd_if_eq hC (tgt := 46) dX7_write_33 (by decide) (fun hy => ?_) (fun hy => ?_)
      · rw [if_neg (by rw [hy]; decide)] at hk
        refine nd_aload_n hC dX7_write_46 rfl rfl ?_
        refine nd_iconst hC (v := nI 3) (by rfl) dX7_write_47 ?_
        refine mo_callV (As := [_]) (d2 := d - 1) hC hw rfl lkX7_244 lyX7_244 (Nat.le_of_ble_eq_true rfl) (by omega) rfl (by exact Nat.le_of_ble_eq_true rfl) (Nat.zero_le _) (Nat.zero_le _) dX7_write_48 rfl ((sp_fails hg hw (fun h3 hw => ?_)))
        first | with_reducible refine nd_i2lN hC (by omega) dX7_write_51 ?_ | refine nd_i2l hC dX7_write_51 ?_
        refine nd_lreturn hC rfl (by omega) (by omega) dX7_write_52 ((hk A _ _ h3 (hI.th.th.t (by omega)) (va_up_s _ _ _) hw))
      · rw [if_pos hy] at hk
        obtain ⟨k, hk1, rfl⟩ := op_in_nat hy
        rw [nI_cl (by omega)] at hk
        refine nd_aload_n hC dX7_write_36 rfl rfl ?_
        refine nd_iload_n hC dX7_write_37 rfl ?_
        refine nd_iload_n hC dX7_write_38 rfl ?_
        refine nd_lload_n hC dX7_write_39 rfl ?_
        refine mo_callV (As := [_, _, _]) (d2 := d - 1) hC hw rfl lkX7_564 lyX7_564 (Nat.le_of_ble_eq_true rfl) (by omega) rfl (by exact Nat.le_of_ble_eq_true rfl) (Nat.zero_le _) (Nat.zero_le _) dX7_write_40 rfl ((sp_cut hg hw htt (by omega) h4 e40 ?_))
        intro h3 hw
        refine nd_goto hC (tgt := 52) dX7_write_43 (by decide) ?_
        refine nd_lreturn hC rfl (by omega) (by omega) dX7_write_52 ((hk A _ _ h3 ((hI.th.cut hS htt eq (by omega)).t (by omega)) (va_up_s _ _ _) hw))
    · exact absurd hq (by decide)
  · rw [if_neg hc] at hk
    refine nd_if_le hC (tgt := 18) dX7_write_13 (by decide) (fun hq => ?_) (fun hq => ?_)
    · exact absurd hq (nI_gt0 (by omega) (by omega))
    · refine nd_lconst hC (v := lN 0) (by rfl) dX7_write_16 ?_
      refine nd_lreturn hC rfl (by omega) (by omega) dX7_write_17 ((hk A _ B _ (hI.th.t (by omega)) (va_up_s _ _ _) hw))
theorem mp_copy (hg : nd_OK g) (hd : 5 ≤ d) (x : Int32) : mp_ok g h0 mX7_copy d [.int x] (mp_i (op_copy x)) := by
  intro tt S A F B h K ht hI hS hw hk
  have hf2 := ty_f_le x S
  have h5 := sy_len5 hS
  have hok := sy_l_ok hS
  have hwd := lk_width hok
  have hn : sy_n S ≤ 6 := hS.1.1.1
  unfold mp_i op_copy at hk
  refine nd_enter hg (by decide) rfl (Nat.le_of_ble_eq_true rfl) (fun X hC => ?_)
  refine nd_aload_n hC dX7_copy_0 rfl rfl ?_
  refine nd_aload_n hC dX7_copy_1 rfl rfl ?_
  refine nd_iload_n hC dX7_copy_2 rfl ?_
  refine mo_callV (As := [_]) (d2 := d - 1) hC hw rfl lkX7_389 lyX7_389 (Nat.le_of_ble_eq_true rfl) (by omega) rfl (by exact Nat.le_of_ble_eq_true rfl) (Nat.zero_le _) (Nat.zero_le _) dX7_copy_3 rfl ((sp_trayFault hg (by omega) hI hS hw ?_))
  refine mo_put_thrown hC hw rfl dX7_copy_6 (fun h hw => ?_)
  refine nd_aload_n hC dX7_copy_9 rfl rfl ?_
  refine mo_get_thrown hC hw rfl dX7_copy_10 ?_
  rw [va_up_s]
  by_cases hc : ty_f x S = 0
  · rw [if_pos hc] at hk
    rw [hc] at hw ⊢
    obtain ⟨t, q, htt, rfl, eq, ev⟩ := ty_f_0 hc
    have es : ty_s (nI t) S = q.1 := by unfold ty_s; rw [nI_cl (by omega), eq]
    rw [ev, es, nI_cl (by omega)] at hk
    have h4 := (hS.2.2.1 t htt q eq).1
    have h30 := (hS.2.2.1 t htt q eq).2
    refine nd_if_le hC (tgt := 18) dX7_copy_13 (by decide) (fun hq => ?_) (fun hq => ?_)
    · refine nd_aload_n hC dX7_copy_18 rfl rfl ?_
      refine mo_callV (As := []) (d2 := d - 1) hC hw rfl lkX7_343 lyX7_343 (Nat.le_of_ble_eq_true rfl) (by omega) rfl (by exact Nat.le_of_ble_eq_true rfl) (Nat.zero_le _) (Nat.zero_le _) dX7_copy_19 rfl ((sp_now hg (by omega) hI.th hS hw ?_))
      intro A2 h2 hl kA hI2 hw
      obtain ⟨e40, hm, -, -⟩ := (hI2.2.2.1 t htt).2 q eq
      refine nd_istore_n hC dX7_copy_22 (Nat.le_of_ble_eq_true rfl) ?_
      refine nd_aload_n hC dX7_copy_23 rfl rfl ?_
      refine mo_get_tMany hC hw rfl dX7_copy_24 ?_
      refine nd_iload_n hC dX7_copy_27 rfl ?_
      refine nd_ialoadN hC hw.tMany (by omega) (by decide) dX7_copy_28 ?_
      rw [hm]
      refine nd_aload_n hC dX7_copy_29 rfl rfl ?_
      refine nd_iload_n hC dX7_copy_30 rfl ?_
      refine mo_callV (As := [_]) (d2 := d - 1) hC hw rfl lkX7_256 lyX7_256 (Nat.le_of_ble_eq_true rfl) (by omega) rfl (by exact Nat.le_of_ble_eq_true rfl) (Nat.zero_le _) (Nat.zero_le _) dX7_copy_31 rfl ((sp_columnsAt hg hw (by omega) ?_))
      rw [hl.1]
      first | ((with_reducible refine nd_tst2 ?_); refine nd_mminN hC (by omega) (by omega) q3079 (by omega) (by omega) (by exact Nat.le_of_ble_eq_true rfl) dX7_copy_34 ?_) | refine nd_mmin hC q3079 (by omega) (by omega) (by exact Nat.le_of_ble_eq_true rfl) dX7_copy_34 ?_
      refine nd_istore_n hC dX7_copy_37 (Nat.le_of_ble_eq_true rfl) ?_
      refine nd_iconst hC (v := nI 0) (by rfl) dX7_copy_38 ?_
      refine nd_istore hC dX7_copy_39 (Nat.le_of_ble_eq_true rfl) ?_
      generalize hmn : min q.2.length (sy_l S).length = m at *
      have hcl : ∀ k, (cp_go S q.1 q.2 k).length = q.2.length := by
        intro k
        induction k with
        | zero => rfl
        | succ k ih => show (List.set _ _ _).length = _; rw [List.length_set]; exact ih
      have L : ∀ k, k ≤ m → ∀ (B : Nat → Nat → Int64) h, mo_I tt (sy_tr S t (q.1, cp_go S q.1 q.2 k)) A2 (va_up F 4 (nI 0)) B → mo_W h0 A2 (va_up F 4 (nI 0)) B h → nd_W g mX7_copy d 0 0 K X 41 [some (.ref 101), some (.int (nI t)), some (.int (nI (sy_c S).1.length)), some (.int (nI m)), some (.int (nI k))] [] h 0 0 := by
        refine nd_for _ _ ?_ ?_
        · intro B h hI3 hw
          refine nd_iload hC dX7_copy_41 rfl ?_
          refine nd_iload_n hC dX7_copy_43 rfl ?_
          first | with_reducible refine nd_icmp_geN hC (tgt := 69) (by omega) (by omega) dX7_copy_44 (by decide) (fun hq => ?_) (fun hq => ?_) | refine nd_icmp_ge hC (tgt := 69) dX7_copy_44 (by decide) (fun hq => ?_) (fun hq => ?_)
          · refine nd_iload_n hC dX7_copy_69 rfl ?_
            refine nd_ireturn hC rfl (by first | rfl | exact nd_b_nar _) (by omega) (by omega) dX7_copy_70 ((hk _ _ _ h (hI3.t (by omega)) (va_up_s _ _ _) hw))
          · omega
        · intro k hk1 ih B h hI3 hw
          refine nd_iload hC dX7_copy_41 rfl ?_
          refine nd_iload_n hC dX7_copy_43 rfl ?_
          first | with_reducible refine nd_icmp_geN hC (tgt := 69) (by omega) (by omega) dX7_copy_44 (by decide) (fun hq => ?_) (fun hq => ?_) | refine nd_icmp_ge hC (tgt := 69) dX7_copy_44 (by decide) (fun hq => ?_) (fun hq => ?_)
          · omega
          · refine nd_aload_n hC dX7_copy_47 rfl rfl ?_
            refine nd_iload_n hC dX7_copy_48 rfl ?_
            refine nd_iload hC dX7_copy_49 rfl ?_
            refine nd_aload_n hC dX7_copy_51 rfl rfl ?_
            refine nd_iload_n hC dX7_copy_52 rfl ?_
            refine nd_iload hC dX7_copy_53 rfl ?_
            refine mo_callV (As := [_, _]) (d2 := d - 1) hC hw rfl lkX7_287 lyX7_287 (Nat.le_of_ble_eq_true rfl) (by omega) rfl (by exact Nat.le_of_ble_eq_true rfl) (Nat.zero_le _) (Nat.zero_le _) dX7_copy_55 rfl ((sp_aboveAt hg (by omega) hw (by omega) hl hok hn (by omega) ?_))
            rw [lk_mk_congr (hI2.fr hS) (hI2.bk hS) (lk_top_half hok hn (by omega))]
            first | with_reducible refine nd_i2lN hC (by omega) dX7_copy_58 ?_ | refine nd_i2l hC dX7_copy_58 ?_
            refine mo_callV (As := [_, _, _]) (d2 := d - 1) hC hw rfl lkX7_564 lyX7_564 (Nat.le_of_ble_eq_true rfl) (by omega) rfl (by exact Nat.le_of_ble_eq_true rfl) (Nat.zero_le _) (Nat.zero_le _) dX7_copy_59 rfl ((sp_cut hg hw htt (by omega) h4 e40 ?_))
            intro h3 hw
            refine nd_pop2_2 hC dX7_copy_62 ?_
            first | with_reducible refine nd_iincN hC dX7_copy_63 rfl (Nat.le_of_ble_eq_true rfl) ?_ | refine nd_iinc hC dX7_copy_63 rfl rfl (Nat.le_of_ble_eq_true rfl) ?_
            refine nd_goto hC (tgt := 41) dX7_copy_66 (by decide) ?_
            have := hI3.cut (w := sy_cut q.1 (lk_mk (sv_fr (sy_c S)) (sv_bk (sy_c S)) (lk_top ((sy_l S).getD k []))).toInt64) (sy_tr_ok hS h4 (by show (cp_go S q.1 q.2 k).length ≤ 30; rw [hcl]; exact h30)) htt (so := q.1) (v := cp_go S q.1 q.2 k) (place := k) (by show (if t = t then _ else _) = _; rw [if_pos rfl]) (by rw [hcl]; omega)
            rw [sy_tr_tr] at this
            exact ih _ h3 this hw
      exact L 0 (Nat.zero_le _) B h2 (by rw [show sy_tr S t (q.1, cp_go S q.1 q.2 0) = S from sy_tr_id eq]; exact hI2) hw
    · exact absurd hq (by decide)
  · rw [if_neg hc] at hk
    refine nd_if_le hC (tgt := 18) dX7_copy_13 (by decide) (fun hq => ?_) (fun hq => ?_)
    · exact absurd hq (nI_gt0 (by omega) (by omega))
    · refine nd_iconst hC (v := nI 0) (by rfl) dX7_copy_16 ?_
      refine nd_ireturn hC rfl (by first | rfl | exact nd_b_nar _) (by omega) (by omega) dX7_copy_17 ((hk A _ B _ (hI.th.t (by omega)) (va_up_s _ _ _) hw))
end MO36

