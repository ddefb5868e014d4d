set_option maxRecDepth 100000
/-! ===== stacks ===== -/
def ty_stk (n : Nat) (v : List Int64) : Bool := decide (v.length = n) && (List.range n).all (fun c => (List.range n).any (fun j => decide (v.getD j 0 = lN c)))
def sk_f (x : Int32) (S : sy_S) : Nat := if ty_f x S = 0 then (if ty_stk (sy_n S) (ty_v x S) = true then 0 else 3) else ty_f x S
theorem sk_f_le (x : Int32) (S : sy_S) : sk_f x S ≤ 3 := by
  have := ty_f_le x S
  unfold sk_f
  split
  · split <;> omega
  · omega
theorem sk_f_0 {x : Int32} {S : sy_S} (h : sk_f x S = 0) : ty_f x S = 0 ∧ ty_stk (sy_n S) (ty_v x S) = true := by
  unfold sk_f at h
  by_cases q : ty_f x S = 0
  · rw [if_pos q] at h
    by_cases q2 : ty_stk (sy_n S) (ty_v x S) = true
    · exact ⟨q, q2⟩
    · rw [if_neg q2] at h; exact absurd h (by decide)
  · rw [if_neg q] at h; exact absurd h q
theorem ty_stk_iff {n : Nat} {v : List Int64} : ty_stk n v = true ↔ v.length = n ∧ ∀ c, c < n → ∃ j, j < n ∧ v.getD j 0 = lN c := by
  unfold ty_stk
  rw [Bool.and_eq_true, decide_eq_true_iff, List.all_eq_true]
  constructor
  · rintro ⟨h1, h2⟩
    refine ⟨h1, fun c hc => ?_⟩
    have := h2 c (List.mem_range.mpr hc)
    rw [List.any_eq_true] at this
    obtain ⟨j, hj, e⟩ := this
    exact ⟨j, List.mem_range.mp hj, of_decide_eq_true e⟩
  · rintro ⟨h1, h2⟩
    refine ⟨h1, fun c hc => ?_⟩
    obtain ⟨j, hj, e⟩ := h2 c (List.mem_range.mp hc)
    rw [List.any_eq_true]
    exact ⟨j, List.mem_range.mpr hj, decide_eq_true e⟩
def btw (v a b : Nat) : Bool := decide (min a b < v ∧ v < max a b)
def cs_at (n : Nat) (p : Nat → Nat) (k l : Nat) : Bool := !decide (k + 2 ≤ l ∧ l + 1 < n ∧ (l - k) % 2 = 0) || (btw (p l) (p k) (p (k + 1)) == btw (p (l + 1)) (p k) (p (k + 1)))
def cs_ok (n : Nat) (p : Nat → Nat) : Bool := (List.range n).all (fun k => (List.range n).all (fun l => cs_at n p k l))
def pupd (p : Nat → Nat) (c k : Nat) : Nat → Nat := fun i => if i = c then k else p i
/-- layers by cells -/
def st_lay (v : List Int64) : Nat → Nat → Nat
  | 0 => fun _ => 0
  | k + 1 => pupd (st_lay v k) (v.getD k 0).toInt.toNat k
def op_stands (x : Int32) (S : sy_S) : sy_R := if sk_f x S = 0 then (0, nd_b (cs_ok (sy_n S) (st_lay (ty_v x S) (sy_n S))), S) else (sk_f x S, nI 0, S)
def st_sum (f : Nat → Nat) : Nat → Nat
  | 0 => 0
  | k + 1 => st_sum f k + f k
def st_go (n : Nat) : Nat → (Nat → Nat) → Nat → Nat
  | 0, p, _ => if cs_ok n p = true then 1 else 0
  | f + 1, p, tk => st_sum (fun k => if tk.testBit k = true then 0 else st_go n f (pupd p (n - (f + 1)) k) (tk ||| 2 ^ k)) n
def op_stacks (S : sy_S) : sy_R := (0, nI (st_go (sy_n S) (sy_n S) (fun _ => 0) 0), S)
noncomputable def op_stack (x : Int32) (S : sy_S) : sy_R := if sk_f x S = 0 then (0, (match fd_r (fun e => lk_stack (sy_n S) e.2 (ty_v x S)) (lv_all 5 (lk_flat (sy_n S))) with | none => -1 | some r => nI r.length), S) else (sk_f x S, nI 0, S)
theorem nd_b_eq {a b : Bool} : nd_b a = nd_b b ↔ a = b := by cases a <;> cases b <;> decide
theorem bt_shl {j : Nat} (h : j < 6) : nI 1 <<< (nI j &&& 31) = nI (2 ^ j) := by
  have : (List.range 6).all (fun j => decide (nI 1 <<< (nI j &&& 31) = nI (2 ^ j))) = true := by decide
  exact of_decide_eq_true (List.all_eq_true.mp this j (List.mem_range.mpr h))
theorem bt_shl1 {j : Nat} (h : j < 7) : nI 1 <<< (nI j &&& 31) = nI (2 ^ j) := by
  have : (List.range 7).all (fun j => decide (nI 1 <<< (nI j &&& 31) = nI (2 ^ j))) = true := by decide
  exact of_decide_eq_true (List.all_eq_true.mp this j (List.mem_range.mpr h))
theorem bt_has {m j : Nat} (hm : m < 64) (h : j < 6) : (nI m >>> (nI j &&& 31)) &&& nI 1 = nd_b (m.testBit j) := by
  have : (List.range 64).all (fun m => (List.range 6).all (fun j => decide ((nI m >>> (nI j &&& 31)) &&& nI 1 = nd_b (m.testBit j)))) = true := by decide +kernel
  exact of_decide_eq_true (List.all_eq_true.mp (List.all_eq_true.mp this m (List.mem_range.mpr hm)) j (List.mem_range.mpr h))
theorem bt_or_lt {m j : Nat} (hm : m < 64) (h : j < 6) : m ||| 2 ^ j < 64 := by
  have h2 : 2 ^ j < 2 ^ 6 := Nat.pow_lt_pow_right (by decide) h
  exact Nat.or_lt_two_pow (n := 6) hm h2
/-- the set of the cells met -/
def sk_m (n : Nat) (v : List Int64) : Nat → Nat
  | 0 => 0
  | k + 1 => sk_m n v k ||| (if 0 ≤ (v.getD k 0).toInt ∧ (v.getD k 0).toInt < n then 2 ^ (v.getD k 0).toInt.toNat else 0)
theorem sk_m_bit {n : Nat} {v : List Int64} (c k : Nat) : (sk_m n v k).testBit c = true ↔ c < n ∧ ∃ j, j < k ∧ (v.getD j 0).toInt = (c : Int) := by
  induction k with
  | zero => exact ⟨fun h => absurd h (by show ¬ Nat.testBit 0 c = true; rw [Nat.zero_testBit]; decide), fun h => by obtain ⟨_, j, hj, _⟩ := h; exact absurd hj (Nat.not_lt_zero _)⟩
  | succ k ih =>
    show (sk_m n v k ||| _).testBit c = true ↔ _
    rw [Nat.testBit_or, Bool.or_eq_true, ih]
    constructor
    · rintro (⟨h1, j, hj, e⟩ | h)
      · exact ⟨h1, j, by omega, e⟩
      · by_cases q : 0 ≤ (v.getD k 0).toInt ∧ (v.getD k 0).toInt < n
        · rw [if_pos q, Nat.testBit_two_pow, decide_eq_true_iff] at h
          exact ⟨by omega, k, by omega, by omega⟩
        · rw [if_neg q, Nat.zero_testBit] at h; exact absurd h (by decide)
    · rintro ⟨h1, j, hj, e⟩
      by_cases q : j = k
      · subst q
        exact Or.inr (by rw [if_pos (by omega), Nat.testBit_two_pow, decide_eq_true_iff]; omega)
      · exact Or.inl ⟨h1, j, by omega, e⟩
theorem sk_m_lt {n : Nat} {v : List Int64} (hn : n ≤ 6) (k : Nat) : sk_m n v k < 64 := by
  induction k with
  | zero => show 0 < 64; decide
  | succ k ih =>
    show sk_m n v k ||| _ < 64
    refine Nat.or_lt_two_pow (n := 6) ih ?_
    split
    · exact Nat.pow_lt_pow_right (by decide) (by omega)
    · decide
theorem sk_m_all {n : Nat} {v : List Int64} (hn : n ≤ 6) (hv : v.length = n) : sk_m n v n = 2 ^ n - 1 ↔ ty_stk n v = true := by
  rw [ty_stk_iff]
  constructor
  · intro h
    refine ⟨hv, fun c hc => ?_⟩
    have : (sk_m n v n).testBit c = true := by rw [h, Nat.testBit_two_pow_sub_one]; exact decide_eq_true hc
    obtain ⟨_, j, hj, e⟩ := (sk_m_bit c n).mp this
    exact ⟨j, hj, lN_of_toInt e (by omega)⟩
  · rintro ⟨_, h⟩
    refine Nat.eq_of_testBit_eq (fun c => ?_)
    rw [Nat.testBit_two_pow_sub_one, Bool.eq_iff_iff, decide_eq_true_iff, sk_m_bit]
    refine ⟨fun q => q.1, fun hc => ⟨hc, ?_⟩⟩
    obtain ⟨j, hj, e⟩ := h c hc
    exact ⟨j, hj, by rw [e, lN_toInt (by omega)]⟩
theorem nd_sub_len {α : Type} [BEq α] [LawfulBEq α] : ∀ (l1 l2 : List α), l1.Nodup → (∀ x, x ∈ l1 → x ∈ l2) → l2.length ≤ l1.length → ∀ x, x ∈ l2 → x ∈ l1 := by
  intro l1
  induction l1 with
  | nil => intro l2 _ _ hl x hx; exact absurd (List.length_pos_of_mem hx) (by simp only [List.length_nil] at hl; omega)
  | cons a l1 ih =>
    intro l2 hnd hs hl x hx
    have ha : a ∈ l2 := hs a (List.mem_cons_self ..)
    rw [List.nodup_cons] at hnd
    by_cases e : x = a
    · rw [e]; exact List.mem_cons_self ..
    · refine List.mem_cons_of_mem _ (ih (l2.erase a) hnd.2 (fun y hy => ?_) ?_ x ((List.mem_erase_of_ne e).mpr hx))
      · have hya : y ≠ a := fun q => hnd.1 (q ▸ hy)
        exact (List.mem_erase_of_ne hya).mpr (hs y (List.mem_cons_of_mem _ hy))
      · rw [List.length_erase_of_mem ha]
        simp only [List.length_cons] at hl
        omega
theorem sk_in {n : Nat} {v : List Int64} (hn : n ≤ 6) (hvl : v.length = n) (h : ty_stk n v = true) : ∀ k, k < n → ∃ w : Nat, w < n ∧ v.getD k 0 = lN w := by
  intro k hk
  have hall := (ty_stk_iff.mp h).2
  have hmem : ∀ j, j < n → v.getD j 0 ∈ v := fun j hj => by
    rw [List.getD_eq_getElem?_getD, List.getElem?_eq_getElem (by omega)]; exact List.getElem_mem _
  have hnd : ((List.range n).map lN).Nodup := by
    unfold List.Nodup
    rw [List.pairwise_map]
    refine List.Pairwise.imp_of_mem (fun {a b} ha hb hab q => ?_) (List.nodup_range (n := n))
    have := congrArg Int64.toInt q
    rw [List.mem_range] at ha hb
    rw [lN_toInt (by omega), lN_toInt (by omega)] at this
    omega
  have := nd_sub_len ((List.range n).map lN) v hnd (fun x hx => by
    obtain ⟨c, hc, rfl⟩ := List.mem_map.mp hx
    obtain ⟨j, hj, e⟩ := hall c (List.mem_range.mp hc)
    rw [← e]; exact hmem j hj) (by simp; omega) (v.getD k 0) (hmem k hk)
  obtain ⟨w, hw, e⟩ := List.mem_map.mp this
  exact ⟨w, List.mem_range.mp hw, e.symm⟩
section MO34
variable {g : nd_G} {d : Nat} {K : nd_K} {h h0 : nd_H} {A : Nat → Nat → Int32} {F : Nat → Int32} {B : Nat → Nat → Int64} {f : Nat → Int32}
theorem sp_stackFault (hg : nd_OK g) (hd : 3 ≤ d) {tt : Nat} {S : sy_S} (hI : mo_I tt S A F B) (hS : sy_ok S) (hw : mo_W h0 A F B h) {x : Int32} (hk : K (.inl (some (.int (nI (sk_f x S))))) h) : nd_M g mX7_stackFault d 0 0 [.ref 101, .int x] h K := by
  have hf := ty_f_le x S
  have hn : sy_n S ≤ 6 := hS.1.1.1
  unfold sk_f at hk
  refine nd_enter hg (by decide) rfl (Nat.le_of_ble_eq_true rfl) (fun X hC => ?_)
  refine nd_aload_n hC dX7_stackFault_0 rfl rfl ?_
  refine nd_iload_n hC dX7_stackFault_1 rfl ?_
  refine mo_callV (As := [_]) (d2 := d - 1) hC hw rfl lkX7_389 lyX7_389 (Nat.le_of_ble_eq_true rfl) (by omega) rfl (by exact Nat.le_of_ble_eq_true rfl) (Nat.zero_le _) (Nat.zero_le _) dX7_stackFault_2 rfl ((sp_trayFault hg (by omega) hI hS hw ?_))
  refine nd_istore_n hC dX7_stackFault_5 (Nat.le_of_ble_eq_true rfl) ?_
  refine nd_iload_n hC dX7_stackFault_6 rfl ?_
  first | with_reducible refine nd_if_eqB hC (tgt := 12) dX7_stackFault_7 (by decide) (fun hc => ?_) (fun hc => ?_) | with_reducible refine nd_if_eqN hC (tgt := 12) (by omega) dX7_stackFault_7 (by decide) (fun hc => ?_) (fun hc => ?_) | refine nd_if_eq hC (tgt := 12) dX7_stackFault_7 (by decide) (fun hc => ?_) (fun hc => ?_)
  · rw [if_pos (by omega)] at hk
    obtain ⟨t, q, ht, rfl, eq, ev⟩ := ty_f_0 (show ty_f x S = 0 by omega)
    rw [ev] at hk
    obtain ⟨-, hm, h30, hnum⟩ := (hI.2.2.1 t ht).2 q eq
    generalize hv : q.2 = v at *
    refine nd_iconst hC (v := nI 0) (by rfl) dX7_stackFault_12 ?_
    refine nd_istore_n hC dX7_stackFault_13 (Nat.le_of_ble_eq_true rfl) ?_
    refine nd_iconst hC (v := nI 0) (by rfl) dX7_stackFault_14 ?_
    refine nd_istore hC dX7_stackFault_15 (Nat.le_of_ble_eq_true rfl) ?_
    have L : ∀ k, k ≤ v.length → nd_W g mX7_stackFault d 0 0 K X 17 [some (.ref 101), some (.int (nI t)), some (.int (nI (ty_f (nI t) S))), some (.int (nI (sk_m (sy_n S) v k))), some (.int (nI k))] [] h 0 0 := by
      refine nd_for _ _ ?_ ?_
      · have hlt := sk_m_lt (v := v) hn v.length
        refine nd_iload hC dX7_stackFault_17 rfl ?_
        refine nd_aload_n hC dX7_stackFault_19 rfl rfl ?_
        refine mo_get_tMany hC hw rfl dX7_stackFault_20 ?_
        refine nd_iload_n hC dX7_stackFault_23 rfl ?_
        refine nd_ialoadN hC hw.tMany (by omega) (by decide) dX7_stackFault_24 ?_
        rw [hm]
        first | with_reducible refine nd_icmp_geN hC (tgt := 75) (by omega) (by omega) dX7_stackFault_25 (by decide) (fun hq => ?_) (fun hq => ?_) | refine nd_icmp_ge hC (tgt := 75) dX7_stackFault_25 (by decide) (fun hq => ?_) (fun hq => ?_)
        · refine nd_aload_n hC dX7_stackFault_75 rfl rfl ?_
          refine mo_get_tMany hC hw rfl dX7_stackFault_76 ?_
          refine nd_iload_n hC dX7_stackFault_79 rfl ?_
          refine nd_ialoadN hC hw.tMany (by omega) (by decide) dX7_stackFault_80 ?_
          rw [hm]
          refine nd_aload_n hC dX7_stackFault_81 rfl rfl ?_
          refine mo_callV (As := []) (d2 := d - 1) hC hw rfl lkX7_253 lyX7_253 (Nat.le_of_ble_eq_true rfl) (by omega) rfl (by exact Nat.le_of_ble_eq_true rfl) (Nat.zero_le _) (Nat.zero_le _) dX7_stackFault_82 rfl ((sp_cells hg hw ?_))
          rw [hI.n]
          first | with_reducible refine nd_icmp_neN hC (tgt := 104) (by omega) (by omega) dX7_stackFault_85 (by decide) (fun hq2 => ?_) (fun hq2 => ?_) | refine nd_icmp_ne hC (tgt := 104) dX7_stackFault_85 (by decide) (fun hq2 => ?_) (fun hq2 => ?_)
          · have hs : ty_stk (sy_n S) v = false := by
              cases e : ty_stk (sy_n S) v with
              | false => rfl
              | true => exact absurd (ty_stk_iff.mp e).1 hq2
            rw [if_neg (by rw [hs]; decide)] at hk
            refine nd_iconst hC (v := nI 3) (by rfl) dX7_stackFault_104 ?_
            refine nd_ireturn hC rfl (by first | rfl | exact nd_b_nar _) (by omega) (by omega) dX7_stackFault_105 (hk)
          · have hq2 : v.length = sy_n S := by omega
            refine nd_iload_n hC dX7_stackFault_88 rfl ?_
            refine nd_iconst hC (v := nI 1) (by rfl) dX7_stackFault_89 ?_
            refine nd_aload_n hC dX7_stackFault_90 rfl rfl ?_
            refine mo_callV (As := []) (d2 := d - 1) hC hw rfl lkX7_253 lyX7_253 (Nat.le_of_ble_eq_true rfl) (by omega) rfl (by exact Nat.le_of_ble_eq_true rfl) (Nat.zero_le _) (Nat.zero_le _) dX7_stackFault_91 rfl ((sp_cells hg hw ?_))
            rw [hI.n]
            refine nd_ishl hC dX7_stackFault_94 ?_
            rw [bt_shl1 (by omega)]
            have hp1 : 1 ≤ 2 ^ sy_n S := Nat.one_le_two_pow
            have hp2 : 2 ^ sy_n S ≤ 64 := Nat.pow_le_pow_right (n := 2) (by decide) hn
            refine nd_iconst hC (v := nI 1) (by rfl) dX7_stackFault_95 ?_
            first | with_reducible refine nd_isubN hC (by omega) dX7_stackFault_96 ?_ | refine nd_isub hC dX7_stackFault_96 ?_
            have hall := sk_m_all (v := v) hn hq2
            rw [hq2] at hlt ⊢
            first | with_reducible refine nd_icmp_neN hC (tgt := 104) (by omega) (by omega) dX7_stackFault_97 (by decide) (fun hq3 => ?_) (fun hq3 => ?_) | refine nd_icmp_ne hC (tgt := 104) dX7_stackFault_97 (by decide) (fun hq3 => ?_) (fun hq3 => ?_)
            · rw [if_neg (fun q => hq3 (hall.mpr q))] at hk
              refine nd_iconst hC (v := nI 3) (by rfl) dX7_stackFault_104 ?_
              refine nd_ireturn hC rfl (by first | rfl | exact nd_b_nar _) (by omega) (by omega) dX7_stackFault_105 (hk)
            · rw [if_pos (hall.mp (by omega))] at hk
              refine nd_iconst hC (v := nI 0) (by rfl) dX7_stackFault_100 ?_
              refine nd_goto hC (tgt := 105) dX7_stackFault_101 (by decide) ?_
              refine nd_ireturn hC rfl (by first | rfl | exact nd_b_nar _) (by omega) (by omega) dX7_stackFault_105 (hk)
        · omega
      · intro k hk1 ih
        refine nd_iload hC dX7_stackFault_17 rfl ?_
        refine nd_aload_n hC dX7_stackFault_19 rfl rfl ?_
        refine mo_get_tMany hC hw rfl dX7_stackFault_20 ?_
        refine nd_iload_n hC dX7_stackFault_23 rfl ?_
        refine nd_ialoadN hC hw.tMany (by omega) (by decide) dX7_stackFault_24 ?_
        rw [hm]
        first | with_reducible refine nd_icmp_geN hC (tgt := 75) (by omega) (by omega) dX7_stackFault_25 (by decide) (fun hq => ?_) (fun hq => ?_) | refine nd_icmp_ge hC (tgt := 75) dX7_stackFault_25 (by decide) (fun hq => ?_) (fun hq => ?_)
        · omega
        · refine nd_iload_n hC dX7_stackFault_28 rfl ?_
          refine nd_aload_n hC dX7_stackFault_29 rfl rfl ?_
          refine nd_aload_n hC dX7_stackFault_30 rfl rfl ?_
          refine mo_get_numbers hC hw rfl dX7_stackFault_31 ?_
          refine nd_bipush hC (v := nI 30) (by rfl) dX7_stackFault_34 ?_
          refine nd_iload_n hC dX7_stackFault_36 rfl ?_
          first | with_reducible refine nd_imulN hC dX7_stackFault_37 ?_ | refine nd_imul hC dX7_stackFault_37 ?_
          refine nd_iload hC dX7_stackFault_38 rfl ?_
          first | with_reducible refine nd_iaddN hC dX7_stackFault_40 ?_ | refine nd_iadd hC dX7_stackFault_40 ?_
          refine nd_laloadN hC hw.numbers (by omega) (by decide) dX7_stackFault_41 ?_
          rw [hnum k hk1]
          refine mo_callV (As := [_]) (d2 := d - 1) hC hw rfl lkX7_337 lyX7_337 (Nat.le_of_ble_eq_true rfl) (by omega) rfl (by exact Nat.le_of_ble_eq_true rfl) (Nat.zero_le _) (Nat.zero_le _) dX7_stackFault_42 rfl ((sp_isCell hg (by omega) hw hI.n hn ?_))
          first | with_reducible refine nd_if_eqB hC (tgt := 66) dX7_stackFault_45 (by decide) (fun hq2 => ?_) (fun hq2 => ?_) | with_reducible refine nd_if_eqN hC (tgt := 66) (by omega) dX7_stackFault_45 (by decide) (fun hq2 => ?_) (fun hq2 => ?_) | refine nd_if_eq hC (tgt := 66) dX7_stackFault_45 (by decide) (fun hq2 => ?_) (fun hq2 => ?_)
          · have hq2 := of_decide_eq_false hq2
            refine nd_iconst hC (v := nI 0) (by rfl) dX7_stackFault_66 ?_
            have e : nI (sk_m (sy_n S) v k) ||| nI 0 = nI (sk_m (sy_n S) v (k + 1)) := by
              rw [nx_or]; show _ = nI (sk_m (sy_n S) v k ||| _); rw [if_neg hq2]
            refine nd_ior hC dX7_stackFault_67 ?_
            rw [e]
            refine nd_istore_n hC dX7_stackFault_68 (Nat.le_of_ble_eq_true rfl) ?_
            first | with_reducible refine nd_iincN hC dX7_stackFault_69 rfl (Nat.le_of_ble_eq_true rfl) ?_ | refine nd_iinc hC dX7_stackFault_69 rfl rfl (Nat.le_of_ble_eq_true rfl) ?_
            refine nd_goto hC (tgt := 17) dX7_stackFault_72 (by decide) ?_
            exact ih
          · have hq2 := of_decide_eq_true hq2
            obtain ⟨w, hw1⟩ : ∃ w : Nat, (v.getD k 0).toInt = (w : Int) := ⟨(v.getD k 0).toInt.toNat, by omega⟩
            have hwv := lN_of_toInt hw1 (by omega)
            refine nd_iconst hC (v := nI 1) (by rfl) dX7_stackFault_48 ?_
            refine nd_aload_n hC dX7_stackFault_49 rfl rfl ?_
            refine mo_get_numbers hC hw rfl dX7_stackFault_50 ?_
            refine nd_bipush hC (v := nI 30) (by rfl) dX7_stackFault_53 ?_
            refine nd_iload_n hC dX7_stackFault_55 rfl ?_
            first | with_reducible refine nd_imulN hC dX7_stackFault_56 ?_ | refine nd_imul hC dX7_stackFault_56 ?_
            refine nd_iload hC dX7_stackFault_57 rfl ?_
            first | with_reducible refine nd_iaddN hC dX7_stackFault_59 ?_ | refine nd_iadd hC dX7_stackFault_59 ?_
            refine nd_laloadN hC hw.numbers (by omega) (by decide) dX7_stackFault_60 ?_
            rw [hnum k hk1, hwv]
            first | with_reducible refine nd_l2iN hC dX7_stackFault_61 ?_ | refine nd_l2i hC dX7_stackFault_61 ?_
            refine nd_ishl hC dX7_stackFault_62 ?_
            rw [bt_shl (by omega)]
            have e : nI (sk_m (sy_n S) v k) ||| nI (2 ^ w) = nI (sk_m (sy_n S) v (k + 1)) := by
              rw [nx_or]; show _ = nI (sk_m (sy_n S) v k ||| _); rw [if_pos hq2, hw1]; rfl
            refine nd_goto hC (tgt := 67) dX7_stackFault_63 (by decide) ?_
            refine nd_ior hC dX7_stackFault_67 ?_
            rw [e]
            refine nd_istore_n hC dX7_stackFault_68 (Nat.le_of_ble_eq_true rfl) ?_
            first | with_reducible refine nd_iincN hC dX7_stackFault_69 rfl (Nat.le_of_ble_eq_true rfl) ?_ | refine nd_iinc hC dX7_stackFault_69 rfl rfl (Nat.le_of_ble_eq_true rfl) ?_
            refine nd_goto hC (tgt := 17) dX7_stackFault_72 (by decide) ?_
            exact ih
    exact L 0 (Nat.zero_le _)
  · rw [if_neg (by omega)] at hk
    refine nd_iload_n hC dX7_stackFault_10 rfl ?_
    refine nd_ireturn hC rfl (by first | rfl | exact nd_b_nar _) (by omega) (by omega) dX7_stackFault_11 (hk)
theorem sp_isBetween (hg : nd_OK g) {v a b : Nat} (hv : v < 100) (ha : a < 100) (hb : b < 100) (hk : K (.inl (some (.int (nd_b (btw v a b))))) h) : nd_M g mX7_isBetween d 0 0 [.int (nI v), .int (nI a), .int (nI b)] h K := by
  unfold btw at hk
  refine nd_enter hg (by decide) rfl (Nat.le_of_ble_eq_true rfl) (fun X hC => ?_)
  refine nd_iload_n hC dX7_isBetween_0 rfl ?_
  refine nd_iload_n hC dX7_isBetween_1 rfl ?_
  refine nd_iload_n hC dX7_isBetween_2 rfl ?_
  first | ((with_reducible refine nd_tst2 ?_); refine nd_mminN hC (by omega) (by omega) q3079 (by omega) (by omega) (by exact Nat.le_of_ble_eq_true rfl) dX7_isBetween_3 ?_) | refine nd_mmin hC q3079 (by omega) (by omega) (by exact Nat.le_of_ble_eq_true rfl) dX7_isBetween_3 ?_
  first | with_reducible refine nd_icmp_leN hC (tgt := 22) (by omega) (by omega) dX7_isBetween_6 (by decide) (fun hc => ?_) (fun hc => ?_) | refine nd_icmp_le hC (tgt := 22) dX7_isBetween_6 (by decide) (fun hc => ?_) (fun hc => ?_)
  · rw [decide_eq_false (by omega)] at hk
    refine nd_iconst hC (v := nI 0) (by rfl) dX7_isBetween_22 ?_
    refine nd_ireturn hC rfl (by first | rfl | exact nd_b_nar _) (by omega) (by omega) dX7_isBetween_23 (hk)
  · refine nd_iload_n hC dX7_isBetween_9 rfl ?_
    refine nd_iload_n hC dX7_isBetween_10 rfl ?_
    refine nd_iload_n hC dX7_isBetween_11 rfl ?_
    first | ((with_reducible refine nd_tst2 ?_); refine nd_mmaxN hC (by omega) (by omega) q3022 (by omega) (by omega) (by exact Nat.le_of_ble_eq_true rfl) dX7_isBetween_12 ?_) | refine nd_mmax hC q3022 (by omega) (by omega) (by exact Nat.le_of_ble_eq_true rfl) dX7_isBetween_12 ?_
    first | with_reducible refine nd_icmp_geN hC (tgt := 22) (by omega) (by omega) dX7_isBetween_15 (by decide) (fun hc2 => ?_) (fun hc2 => ?_) | refine nd_icmp_ge hC (tgt := 22) dX7_isBetween_15 (by decide) (fun hc2 => ?_) (fun hc2 => ?_)
    · rw [decide_eq_false (by omega)] at hk
      refine nd_iconst hC (v := nI 0) (by rfl) dX7_isBetween_22 ?_
      refine nd_ireturn hC rfl (by first | rfl | exact nd_b_nar _) (by omega) (by omega) dX7_isBetween_23 (hk)
    · rw [decide_eq_true (by omega)] at hk
      refine nd_iconst hC (v := nI 1) (by rfl) dX7_isBetween_18 ?_
      refine nd_goto hC (tgt := 23) dX7_isBetween_19 (by decide) ?_
      refine nd_ireturn hC rfl (by first | rfl | exact nd_b_nar _) (by omega) (by omega) dX7_isBetween_23 (hk)
theorem sp_canStand (hg : nd_OK g) (hd : 1 ≤ d) (hw : mo_W h0 A F B h) {n : Nat} {p : Nat → Nat} (hn : n ≤ 6) (hc : A 0 1 = nI n) (hp : ∀ i, i < n → A 38 i = nI (p i)) (hb : ∀ i, i < n → p i < 6) (hk : K (.inl (some (.int (nd_b (cs_ok n p))))) h) : nd_M g mX7_canStand d 0 0 [.ref 101] h K := by
  have JT : ∀ k lv2, n ≤ k + 1 → (∀ k2 l, k2 < k → cs_at n p k2 l = true) → ∀ X, nd_Cx g mX7_canStand X → nd_W g mX7_canStand d 0 0 K X 91 [some (.ref 101), some (.int (nI k)), lv2] [] h 0 0 := by
    intro k lv2 hk1 hal X hC
    have e : cs_ok n p = true := by
      refine nd_allT (fun k2 h2 => nd_allT (fun l hl => ?_))
      by_cases q : k2 < k
      · exact hal k2 l q
      · unfold cs_at
        rw [decide_eq_false (by omega)]; rfl
    rw [e] at hk
    refine nd_iconst hC (v := nI 1) (by rfl) dX7_canStand_91 ?_
    refine nd_ireturn hC rfl (by first | rfl | exact nd_b_nar _) (by omega) (by omega) dX7_canStand_92 (hk)
  refine nd_enter hg (by decide) rfl (Nat.le_of_ble_eq_true rfl) (fun X hC => ?_)
  refine nd_iconst hC (v := nI 0) (by rfl) dX7_canStand_0 ?_
  refine nd_istore_n hC dX7_canStand_1 (Nat.le_of_ble_eq_true rfl) ?_
  have L : ∀ k, k ≤ n → ∀ lv2, (∀ k2 l, k2 < k → cs_at n p k2 l = true) → nd_W g mX7_canStand d 0 0 K X 2 [some (.ref 101), some (.int (nI k)), lv2] [] h 0 0 := by
    refine nd_for _ _ ?_ ?_
    · intro lv2 hal
      refine nd_iload_n hC dX7_canStand_2 rfl ?_
      refine nd_iconst hC (v := nI 1) (by rfl) dX7_canStand_3 ?_
      first | with_reducible refine nd_iaddN hC dX7_canStand_4 ?_ | refine nd_iadd hC dX7_canStand_4 ?_
      refine nd_aload_n hC dX7_canStand_5 rfl rfl ?_
      refine mo_callV (As := []) (d2 := d - 1) hC hw rfl lkX7_253 lyX7_253 (Nat.le_of_ble_eq_true rfl) (by omega) rfl (by exact Nat.le_of_ble_eq_true rfl) (Nat.zero_le _) (Nat.zero_le _) dX7_canStand_6 rfl ((sp_cells hg hw ?_))
      rw [hc]
      first | with_reducible refine nd_icmp_geN hC (tgt := 91) (by omega) (by omega) dX7_canStand_9 (by decide) (fun hq => ?_) (fun hq => ?_) | refine nd_icmp_ge hC (tgt := 91) dX7_canStand_9 (by decide) (fun hq => ?_) (fun hq => ?_)
      · exact JT n lv2 (by omega) hal X hC
      · omega
    · intro k hk1 ih lv2 hal
      refine nd_iload_n hC dX7_canStand_2 rfl ?_
      refine nd_iconst hC (v := nI 1) (by rfl) dX7_canStand_3 ?_
      first | with_reducible refine nd_iaddN hC dX7_canStand_4 ?_ | refine nd_iadd hC dX7_canStand_4 ?_
      refine nd_aload_n hC dX7_canStand_5 rfl rfl ?_
      refine mo_callV (As := []) (d2 := d - 1) hC hw rfl lkX7_253 lyX7_253 (Nat.le_of_ble_eq_true rfl) (by omega) rfl (by exact Nat.le_of_ble_eq_true rfl) (Nat.zero_le _) (Nat.zero_le _) dX7_canStand_6 rfl ((sp_cells hg hw ?_))
      rw [hc]
      first | with_reducible refine nd_icmp_geN hC (tgt := 91) (by omega) (by omega) dX7_canStand_9 (by decide) (fun hq => ?_) (fun hq => ?_) | refine nd_icmp_ge hC (tgt := 91) dX7_canStand_9 (by decide) (fun hq => ?_) (fun hq => ?_)
      · exact JT k lv2 (by omega) hal X hC
      · have ek := hp k (by omega)
        have ek1 := hp (k + 1) (by omega)
        have bk := hb k (by omega)
        have bk1 := hb (k + 1) (by omega)
        have L2 : ∀ j, j ≤ n → (∀ l, l < k + 2 + 2 * j → cs_at n p k l = true) → nd_W g mX7_canStand d 0 0 K X 16 [some (.ref 101), some (.int (nI k)), some (.int (nI (k + 2 + 2 * j)))] [] h 0 0 := by
          have JX : ∀ l2, n ≤ l2 + 1 → (∀ l, l < l2 → cs_at n p k l = true) → nd_W g mX7_canStand d 0 0 K X 85 [some (.ref 101), some (.int (nI k)), some (.int (nI l2))] [] h 0 0 := by
            intro l2 hl2 hal2
            first | with_reducible refine nd_iincN hC dX7_canStand_85 rfl (Nat.le_of_ble_eq_true rfl) ?_ | refine nd_iinc hC dX7_canStand_85 rfl rfl (Nat.le_of_ble_eq_true rfl) ?_
            refine nd_goto hC (tgt := 2) dX7_canStand_88 (by decide) ?_
            refine ih _ (fun k2 l h2 => ?_)
            by_cases q : k2 < k
            · exact hal k2 l q
            · obtain rfl : k2 = k := by omega
              by_cases q2 : l < l2
              · exact hal2 l q2
              · unfold cs_at
                rw [decide_eq_false (by omega)]; rfl
          refine nd_for _ _ ?_ ?_
          · intro hal2
            refine nd_iload_n hC dX7_canStand_16 rfl ?_
            refine nd_iconst hC (v := nI 1) (by rfl) dX7_canStand_17 ?_
            first | with_reducible refine nd_iaddN hC dX7_canStand_18 ?_ | refine nd_iadd hC dX7_canStand_18 ?_
            refine nd_aload_n hC dX7_canStand_19 rfl rfl ?_
            refine mo_callV (As := []) (d2 := d - 1) hC hw rfl lkX7_253 lyX7_253 (Nat.le_of_ble_eq_true rfl) (by omega) rfl (by exact Nat.le_of_ble_eq_true rfl) (Nat.zero_le _) (Nat.zero_le _) dX7_canStand_20 rfl ((sp_cells hg hw ?_))
            rw [hc]
            first | with_reducible refine nd_icmp_geN hC (tgt := 85) (by omega) (by omega) dX7_canStand_23 (by decide) (fun hq2 => ?_) (fun hq2 => ?_) | refine nd_icmp_ge hC (tgt := 85) dX7_canStand_23 (by decide) (fun hq2 => ?_) (fun hq2 => ?_)
            · exact JX _ (by omega) hal2
            · omega
          · intro j hj ih2 hal2
            refine nd_iload_n hC dX7_canStand_16 rfl ?_
            refine nd_iconst hC (v := nI 1) (by rfl) dX7_canStand_17 ?_
            first | with_reducible refine nd_iaddN hC dX7_canStand_18 ?_ | refine nd_iadd hC dX7_canStand_18 ?_
            refine nd_aload_n hC dX7_canStand_19 rfl rfl ?_
            refine mo_callV (As := []) (d2 := d - 1) hC hw rfl lkX7_253 lyX7_253 (Nat.le_of_ble_eq_true rfl) (by omega) rfl (by exact Nat.le_of_ble_eq_true rfl) (Nat.zero_le _) (Nat.zero_le _) dX7_canStand_20 rfl ((sp_cells hg hw ?_))
            rw [hc]
            first | with_reducible refine nd_icmp_geN hC (tgt := 85) (by omega) (by omega) dX7_canStand_23 (by decide) (fun hq2 => ?_) (fun hq2 => ?_) | refine nd_icmp_ge hC (tgt := 85) dX7_canStand_23 (by decide) (fun hq2 => ?_) (fun hq2 => ?_)
            · exact JX _ (by omega) hal2
            · have el := hp (k + 2 + 2 * j) (by omega)
              have el1 := hp (k + 2 + 2 * j + 1) (by omega)
              have bl := hb (k + 2 + 2 * j) (by omega)
              have bl1 := hb (k + 2 + 2 * j + 1) (by omega)
              refine nd_aload_n hC dX7_canStand_26 rfl rfl ?_
              refine mo_get_layers hC hw rfl dX7_canStand_27 ?_
              refine nd_iload_n hC dX7_canStand_30 rfl ?_
              refine nd_ialoadN hC hw.layers (by omega) (by decide) dX7_canStand_31 ?_
              rw [el]
              refine nd_aload_n hC dX7_canStand_32 rfl rfl ?_
              refine mo_get_layers hC hw rfl dX7_canStand_33 ?_
              refine nd_iload_n hC dX7_canStand_36 rfl ?_
              refine nd_ialoadN hC hw.layers (by omega) (by decide) dX7_canStand_37 ?_
              rw [ek]
              refine nd_aload_n hC dX7_canStand_38 rfl rfl ?_
              refine mo_get_layers hC hw rfl dX7_canStand_39 ?_
              refine nd_iload_n hC dX7_canStand_42 rfl ?_
              refine nd_iconst hC (v := nI 1) (by rfl) dX7_canStand_43 ?_
              first | with_reducible refine nd_iaddN hC dX7_canStand_44 ?_ | refine nd_iadd hC dX7_canStand_44 ?_
              refine nd_ialoadN hC hw.layers (by omega) (by decide) dX7_canStand_45 ?_
              rw [ek1]
              refine mo_callS (As := [_, _, _]) (d2 := d - 1) hC rfl lkX7_527 lyX7_527 (Nat.le_of_ble_eq_true rfl) (by omega) rfl (by exact Nat.le_of_ble_eq_true rfl) (Nat.zero_le _) (Nat.zero_le _) dX7_canStand_46 rfl ((sp_isBetween hg (by omega) (by omega) (by omega) ?_))
              refine nd_aload_n hC dX7_canStand_49 rfl rfl ?_
              refine mo_get_layers hC hw rfl dX7_canStand_50 ?_
              refine nd_iload_n hC dX7_canStand_53 rfl ?_
              refine nd_iconst hC (v := nI 1) (by rfl) dX7_canStand_54 ?_
              first | with_reducible refine nd_iaddN hC dX7_canStand_55 ?_ | refine nd_iadd hC dX7_canStand_55 ?_
              refine nd_ialoadN hC hw.layers (by omega) (by decide) dX7_canStand_56 ?_
              rw [el1]
              refine nd_aload_n hC dX7_canStand_57 rfl rfl ?_
              refine mo_get_layers hC hw rfl dX7_canStand_58 ?_
              refine nd_iload_n hC dX7_canStand_61 rfl ?_
              refine nd_ialoadN hC hw.layers (by omega) (by decide) dX7_canStand_62 ?_
              rw [ek]
              refine nd_aload_n hC dX7_canStand_63 rfl rfl ?_
              refine mo_get_layers hC hw rfl dX7_canStand_64 ?_
              refine nd_iload_n hC dX7_canStand_67 rfl ?_
              refine nd_iconst hC (v := nI 1) (by rfl) dX7_canStand_68 ?_
              first | with_reducible refine nd_iaddN hC dX7_canStand_69 ?_ | refine nd_iadd hC dX7_canStand_69 ?_
              refine nd_ialoadN hC hw.layers (by omega) (by decide) dX7_canStand_70 ?_
              rw [ek1]
              refine mo_callS (As := [_, _, _]) (d2 := d - 1) hC rfl lkX7_527 lyX7_527 (Nat.le_of_ble_eq_true rfl) (by omega) rfl (by exact Nat.le_of_ble_eq_true rfl) (Nat.zero_le _) (Nat.zero_le _) dX7_canStand_71 rfl ((sp_isBetween hg (by omega) (by omega) (by omega) ?_))
              first | with_reducible refine nd_icmp_eqN hC (tgt := 79) (by omega) (by omega) dX7_canStand_74 (by decide) (fun hq3 => ?_) (fun hq3 => ?_) | refine nd_icmp_eq hC (tgt := 79) dX7_canStand_74 (by decide) (fun hq3 => ?_) (fun hq3 => ?_)
              · have hq3 := nd_b_eq.mp hq3
                first | with_reducible refine nd_iincN hC dX7_canStand_79 rfl (Nat.le_of_ble_eq_true rfl) ?_ | refine nd_iinc hC dX7_canStand_79 rfl rfl (Nat.le_of_ble_eq_true rfl) ?_
                refine nd_goto hC (tgt := 16) dX7_canStand_82 (by decide) ?_
                have e : nI (k + 2 + 2 * j) + Int32.ofInt 2 = nI (k + 2 + 2 * (j + 1)) := by
                  rw [show Int32.ofInt 2 = nI 2 from rfl, nI_add]; rfl
                rw [e]
                refine ih2 (fun l hl => ?_)
                by_cases q : l < k + 2 + 2 * j
                · exact hal2 l q
                · unfold cs_at
                  by_cases q2 : l = k + 2 + 2 * j
                  · subst q2
                    rw [hq3]; simp
                  · rw [decide_eq_false (by omega)]; rfl
              · have e : cs_ok n p = false := by
                  refine nd_allF (j := k) (by omega) (nd_allF (j := k + 2 + 2 * j) (by omega) ?_)
                  unfold cs_at
                  rw [decide_eq_true (by omega)]
                  have : btw (p (k + 2 + 2 * j)) (p k) (p (k + 1)) ≠ btw (p (k + 2 + 2 * j + 1)) (p k) (p (k + 1)) := fun q => hq3 (nd_b_eq.mpr q)
                  rw [beq_false_of_ne this]; rfl
                rw [e] at hk
                refine nd_iconst hC (v := nI 0) (by rfl) dX7_canStand_77 ?_
                refine nd_ireturn hC rfl (by first | rfl | exact nd_b_nar _) (by omega) (by omega) dX7_canStand_78 (hk)
        refine nd_iload_n hC dX7_canStand_12 rfl ?_
        refine nd_iconst hC (v := nI 2) (by rfl) dX7_canStand_13 ?_
        first | with_reducible refine nd_iaddN hC dX7_canStand_14 ?_ | refine nd_iadd hC dX7_canStand_14 ?_
        refine nd_istore_n hC dX7_canStand_15 (Nat.le_of_ble_eq_true rfl) ?_
        refine L2 0 (Nat.zero_le _) (fun l hl => ?_)
        unfold cs_at
        rw [decide_eq_false (by omega)]; rfl
  exact L 0 (Nat.zero_le _) _ (fun k2 l h2 => absurd h2 (Nat.not_lt_zero _))
theorem sp_has (hg : nd_OK g) {m j : Nat} (hm : m < 64) (hj : j < 6) (hk : K (.inl (some (.int (nd_b (m.testBit j))))) h) : nd_M g mX7_has d 0 0 [.int (nI m), .int (nI j)] h K := by
  refine nd_enter hg (by decide) rfl (Nat.le_of_ble_eq_true rfl) (fun X hC => ?_)
  refine nd_iload_n hC dX7_has_0 rfl ?_
  refine nd_iload_n hC dX7_has_1 rfl ?_
  refine nd_ishr hC dX7_has_2 ?_
  refine nd_iconst hC (v := nI 1) (by rfl) dX7_has_3 ?_
  refine nd_iand hC dX7_has_4 ?_
  rw [bt_has hm hj]
  refine nd_iconst hC (v := nI 1) (by rfl) dX7_has_5 ?_
  cases e : m.testBit j with
  | true =>
    rw [e] at hk
    first | with_reducible refine nd_icmp_neN hC (tgt := 13) (by omega) (by omega) dX7_has_6 (by decide) (fun hq => ?_) (fun hq => ?_) | refine nd_icmp_ne hC (tgt := 13) dX7_has_6 (by decide) (fun hq => ?_) (fun hq => ?_)
    · exact absurd rfl hq
    · refine nd_iconst hC (v := nI 1) (by rfl) dX7_has_9 ?_
      refine nd_goto hC (tgt := 14) dX7_has_10 (by decide) ?_
      refine nd_ireturn hC rfl (by first | rfl | exact nd_b_nar _) (by omega) (by omega) dX7_has_14 (hk)
  | false =>
    rw [e] at hk
    first | with_reducible refine nd_icmp_neN hC (tgt := 13) (by omega) (by omega) dX7_has_6 (by decide) (fun hq => ?_) (fun hq => ?_) | refine nd_icmp_ne hC (tgt := 13) dX7_has_6 (by decide) (fun hq => ?_) (fun hq => ?_)
    · refine nd_iconst hC (v := nI 0) (by rfl) dX7_has_13 ?_
      refine nd_ireturn hC rfl (by first | rfl | exact nd_b_nar _) (by omega) (by omega) dX7_has_14 (hk)
    · exact absurd hq (by decide)
theorem mp_stands (hg : nd_OK g) (hd : 4 ≤ d) (x : Int32) : mp_ok g h0 mX7_stands d [.int x] (mp_i (op_stands x)) := by
  intro tt S A F B h K ht hI hS hw hk
  have hn : sy_n S ≤ 6 := hS.1.1.1
  have hm3 := sk_f_le x S
  unfold mp_i op_stands at hk
  refine nd_enter hg (by decide) rfl (Nat.le_of_ble_eq_true rfl) (fun X hC => ?_)
  refine nd_aload_n hC dX7_stands_0 rfl rfl ?_
  refine nd_aload_n hC dX7_stands_1 rfl rfl ?_
  refine nd_iload_n hC dX7_stands_2 rfl ?_
  refine mo_callV (As := [_]) (d2 := d - 1) hC hw rfl lkX7_531 lyX7_531 (Nat.le_of_ble_eq_true rfl) (by omega) rfl (by exact Nat.le_of_ble_eq_true rfl) (Nat.zero_le _) (Nat.zero_le _) dX7_stands_3 rfl ((sp_stackFault hg (by omega) hI hS hw ?_))
  refine mo_put_thrown hC hw rfl dX7_stands_6 (fun h hw => ?_)
  refine nd_aload_n hC dX7_stands_9 rfl rfl ?_
  refine mo_get_thrown hC hw rfl dX7_stands_10 ?_
  rw [va_up_s]
  by_cases h0c : sk_f x S = 0
  · rw [if_pos h0c] at hk
    obtain ⟨hf0, hsk⟩ := sk_f_0 h0c
    obtain ⟨t, q, htt, rfl, eq, ev⟩ := ty_f_0 hf0
    rw [ev] at hk hsk
    rw [h0c] at hw ⊢
    obtain ⟨-, hm, h30, hnum⟩ := (hI.2.2.1 t htt).2 q eq
    generalize hv : q.2 = v at *
    obtain ⟨hvl, hall⟩ := ty_stk_iff.mp hsk
    refine nd_if_le hC (tgt := 18) dX7_stands_13 (by decide) (fun hq => ?_) (fun hq => ?_)
    · refine nd_iconst hC (v := nI 0) (by rfl) dX7_stands_18 ?_
      refine nd_istore_n hC dX7_stands_19 (Nat.le_of_ble_eq_true rfl) ?_
      have hpig : ∀ k, k < sy_n S → ∃ w : Nat, w < sy_n S ∧ v.getD k 0 = lN w := sk_in hn hvl hsk
      have L : ∀ k, k ≤ sy_n S → ∀ f2 h2, (∀ c, (∃ j, j < k ∧ v.getD j 0 = lN c) → c < 6 → f2 c = nI (st_lay v k c) ∧ st_lay v k c < 6) → mo_W h0 (va_up A 38 f2) (va_up F 4 (nI 0)) B h2 → nd_W g mX7_stands d 0 0 K X 20 [some (.ref 101), some (.int (nI t)), some (.int (nI k))] [] h2 0 0 := by
        refine nd_for _ _ ?_ ?_
        · intro f2 h hf hw
          refine nd_iload_n hC dX7_stands_20 rfl ?_
          refine nd_aload_n hC dX7_stands_21 rfl rfl ?_
          refine mo_callV (As := []) (d2 := d - 1) hC hw rfl lkX7_253 lyX7_253 (Nat.le_of_ble_eq_true rfl) (by omega) rfl (by exact Nat.le_of_ble_eq_true rfl) (Nat.zero_le _) (Nat.zero_le _) dX7_stands_22 rfl ((sp_cells hg hw ?_))
          rw [show (va_up A 38 f2) 0 1 = nI (sy_n S) from hI.n]
          first | with_reducible refine nd_icmp_geN hC (tgt := 52) (by omega) (by omega) dX7_stands_25 (by decide) (fun hq => ?_) (fun hq => ?_) | refine nd_icmp_ge hC (tgt := 52) dX7_stands_25 (by decide) (fun hq => ?_) (fun hq => ?_)
          · refine nd_aload_n hC dX7_stands_52 rfl rfl ?_
            refine mo_callV (As := []) (d2 := d - 1) hC hw rfl lkX7_534 lyX7_534 (Nat.le_of_ble_eq_true rfl) (by omega) rfl (by exact Nat.le_of_ble_eq_true rfl) (Nat.zero_le _) (Nat.zero_le _) dX7_stands_53 rfl ((sp_canStand hg (by omega) hw (p := st_lay v (sy_n S)) hn hI.n (fun i hi => by rw [va_up_s]; exact (hf i (hall i hi) (by omega)).1) (fun i hi => (hf i (hall i hi) (by omega)).2) ?_))
            refine nd_ireturn hC rfl (by first | rfl | exact nd_b_nar _) (by omega) (by omega) dX7_stands_56 ((hk _ _ _ _ ((hI.th.ar (j := 38) rfl).t (by omega)) (va_up_s _ _ _) hw))
          · omega
        · intro k hk1 ih f2 h hf hw
          refine nd_iload_n hC dX7_stands_20 rfl ?_
          refine nd_aload_n hC dX7_stands_21 rfl rfl ?_
          refine mo_callV (As := []) (d2 := d - 1) hC hw rfl lkX7_253 lyX7_253 (Nat.le_of_ble_eq_true rfl) (by omega) rfl (by exact Nat.le_of_ble_eq_true rfl) (Nat.zero_le _) (Nat.zero_le _) dX7_stands_22 rfl ((sp_cells hg hw ?_))
          rw [show (va_up A 38 f2) 0 1 = nI (sy_n S) from hI.n]
          obtain ⟨w, hwn, ew⟩ := hpig k hk1
          first | with_reducible refine nd_icmp_geN hC (tgt := 52) (by omega) (by omega) dX7_stands_25 (by decide) (fun hq => ?_) (fun hq => ?_) | refine nd_icmp_ge hC (tgt := 52) dX7_stands_25 (by decide) (fun hq => ?_) (fun hq => ?_)
          · omega
          · refine nd_aload_n hC dX7_stands_28 rfl rfl ?_
            refine mo_get_layers hC hw rfl dX7_stands_29 ?_
            refine nd_aload_n hC dX7_stands_32 rfl rfl ?_
            refine mo_get_numbers hC hw rfl dX7_stands_33 ?_
            refine nd_bipush hC (v := nI 30) (by rfl) dX7_stands_36 ?_
            refine nd_iload_n hC dX7_stands_38 rfl ?_
            first | with_reducible refine nd_imulN hC dX7_stands_39 ?_ | refine nd_imul hC dX7_stands_39 ?_
            refine nd_iload_n hC dX7_stands_40 rfl ?_
            first | with_reducible refine nd_iaddN hC dX7_stands_41 ?_ | refine nd_iadd hC dX7_stands_41 ?_
            refine nd_laloadN hC hw.numbers (by omega) (by decide) dX7_stands_42 ?_
            rw [hnum k (by omega), ew]
            first | with_reducible refine nd_l2iN hC dX7_stands_43 ?_ | refine nd_l2i hC dX7_stands_43 ?_
            refine nd_iload_n hC dX7_stands_44 rfl ?_
            refine mo_ast_layers hC hw (by omega) dX7_stands_45 (fun h hw => ?_)
            try simp only [va_up_up, va_up_s] at hw
            first | with_reducible refine nd_iincN hC dX7_stands_46 rfl (Nat.le_of_ble_eq_true rfl) ?_ | refine nd_iinc hC dX7_stands_46 rfl rfl (Nat.le_of_ble_eq_true rfl) ?_
            refine nd_goto hC (tgt := 20) dX7_stands_49 (by decide) ?_
            refine ih _ h (fun c hc hc6 => ?_) hw
            have est : st_lay v (k + 1) c = if c = w then k else st_lay v k c := by
              show pupd _ _ _ c = _
              rw [ew, lN_toInt (by omega)]; rfl
            rw [est]
            by_cases e : c = w
            · rw [if_pos e, e, upd_s]; exact ⟨rfl, by omega⟩
            · rw [if_neg e, upd_n e]
              obtain ⟨j, hj, ej⟩ := hc
              refine hf c ⟨j, ?_, ej⟩ hc6
              by_cases q : j = k
              · subst q
                have := congrArg Int64.toInt (ew.symm.trans ej)
                rw [lN_toInt (by omega), lN_toInt (by omega)] at this
                omega
              · omega
      exact L 0 (Nat.zero_le _) (A 38) h (fun c hc => by obtain ⟨j, hj, _⟩ := hc; exact absurd hj (Nat.not_lt_zero _)) (by rw [va_up_id]; exact hw)
    · exact absurd hq (by decide)
  · rw [if_neg h0c] at hk
    refine nd_if_le hC (tgt := 18) dX7_stands_13 (by decide) (fun hq => ?_) (fun hq => ?_)
    · exact absurd hq (nI_gt0 (by omega) (by omega))
    · refine nd_iconst hC (v := nI 0) (by rfl) dX7_stands_16 ?_
      refine nd_ireturn hC rfl (by first | rfl | exact nd_b_nar _) (by omega) (by omega) dX7_stands_17 ((hk A _ B _ (hI.th.t (by omega)) (va_up_s _ _ _) hw))
theorem sp_standing (hg : nd_OK g) {n : Nat} (hn : n ≤ 6) : ∀ f d, f ≤ n → f + 2 ≤ d → ∀ (p : Nat → Nat) (tk : Nat) (A : Nat → Nat → Int32) h K, tk < 64 → A 0 1 = nI n → (∀ i, i < n - f → A 38 i = nI (p i)) → (∀ i, i < n - f → p i < 6) → mo_W h0 A F B h → (∀ f2 h2, (∀ i, i < n - f → f2 i = A 38 i) → mo_W h0 (va_up A 38 f2) F B h2 → K (.inl (some (.int (nI (st_go n f p tk))))) h2) → nd_M g mX7_standing d 0 0 [.ref 101, .int (nI (n - f)), .int (nI tk)] h K := by
  intro f
  induction f with
  | zero =>
    intro d hf hd p tk A h K htk hc hp hb hw hk
    have hk0 := hk (A 38) h (fun _ _ => rfl) (by rw [va_up_id]; exact hw)
    rw [Nat.sub_zero] at hp hb ⊢
    unfold st_go at hk0
    refine nd_enter hg (by decide) rfl (Nat.le_of_ble_eq_true rfl) (fun X hC => ?_)
    refine nd_iload_n hC dX7_standing_0 rfl ?_
    refine nd_aload_n hC dX7_standing_1 rfl rfl ?_
    refine mo_callV (As := []) (d2 := d - 1) hC hw rfl lkX7_253 lyX7_253 (Nat.le_of_ble_eq_true rfl) (by omega) rfl (by exact Nat.le_of_ble_eq_true rfl) (Nat.zero_le _) (Nat.zero_le _) dX7_standing_2 rfl ((sp_cells hg hw ?_))
    rw [hc]
    first | with_reducible refine nd_icmp_neN hC (tgt := 21) (by omega) (by omega) dX7_standing_5 (by decide) (fun hq => ?_) (fun hq => ?_) | refine nd_icmp_ne hC (tgt := 21) dX7_standing_5 (by decide) (fun hq => ?_) (fun hq => ?_)
    · exact absurd rfl hq
    · refine nd_aload_n hC dX7_standing_8 rfl rfl ?_
      refine mo_callV (As := []) (d2 := d - 1) hC hw rfl lkX7_534 lyX7_534 (Nat.le_of_ble_eq_true rfl) (by omega) rfl (by exact Nat.le_of_ble_eq_true rfl) (Nat.zero_le _) (Nat.zero_le _) dX7_standing_9 rfl ((sp_canStand hg (by omega) hw hn hc hp hb ?_))
      first | with_reducible refine nd_if_eqB hC (tgt := 19) dX7_standing_12 (by decide) (fun hq2 => ?_) (fun hq2 => ?_) | with_reducible refine nd_if_eqN hC (tgt := 19) (by omega) dX7_standing_12 (by decide) (fun hq2 => ?_) (fun hq2 => ?_) | refine nd_if_eq hC (tgt := 19) dX7_standing_12 (by decide) (fun hq2 => ?_) (fun hq2 => ?_)
      · rw [if_neg (by rw [hq2]; decide)] at hk0
        refine nd_iconst hC (v := nI 0) (by rfl) dX7_standing_19 ?_
        refine nd_ireturn hC rfl (by first | rfl | exact nd_b_nar _) (by omega) (by omega) dX7_standing_20 (hk0)
      · rw [if_pos hq2] at hk0
        refine nd_iconst hC (v := nI 1) (by rfl) dX7_standing_15 ?_
        refine nd_goto hC (tgt := 20) dX7_standing_16 (by decide) ?_
        refine nd_ireturn hC rfl (by first | rfl | exact nd_b_nar _) (by omega) (by omega) dX7_standing_20 (hk0)
  | succ f ihf =>
    intro d hf hd p tk A h K htk hc hp hb hw hk
    generalize hcc : n - (f + 1) = c at *
    have hc1 : n - f = c + 1 := by omega
    have est : st_go n (f + 1) p tk = st_sum (fun k => if tk.testBit k = true then 0 else st_go n f (pupd p c k) (tk ||| 2 ^ k)) n := by
      show st_sum _ n = _
      rw [hcc]
    rw [est] at hk
    clear est
    generalize hgg : (fun k => if tk.testBit k = true then 0 else st_go n f (pupd p c k) (tk ||| 2 ^ k)) = gg at hk
    refine nd_enter hg (by decide) rfl (Nat.le_of_ble_eq_true rfl) (fun X hC => ?_)
    refine nd_iload_n hC dX7_standing_0 rfl ?_
    refine nd_aload_n hC dX7_standing_1 rfl rfl ?_
    refine mo_callV (As := []) (d2 := d - 1) hC hw rfl lkX7_253 lyX7_253 (Nat.le_of_ble_eq_true rfl) (by omega) rfl (by exact Nat.le_of_ble_eq_true rfl) (Nat.zero_le _) (Nat.zero_le _) dX7_standing_2 rfl ((sp_cells hg hw ?_))
    rw [hc]
    first | with_reducible refine nd_icmp_neN hC (tgt := 21) (by omega) (by omega) dX7_standing_5 (by decide) (fun hq => ?_) (fun hq => ?_) | refine nd_icmp_ne hC (tgt := 21) dX7_standing_5 (by decide) (fun hq => ?_) (fun hq => ?_)
    · refine nd_iconst hC (v := nI 0) (by rfl) dX7_standing_21 ?_
      refine nd_istore_n hC dX7_standing_22 (Nat.le_of_ble_eq_true rfl) ?_
      refine nd_iconst hC (v := nI 0) (by rfl) dX7_standing_23 ?_
      refine nd_istore hC dX7_standing_24 (Nat.le_of_ble_eq_true rfl) ?_
      have L : ∀ k, k ≤ n → ∀ f2 h2, (∀ i, i < c → f2 i = A 38 i) → mo_W h0 (va_up A 38 f2) F B h2 → nd_W g mX7_standing d 0 0 K X 26 [some (.ref 101), some (.int (nI c)), some (.int (nI tk)), some (.int (nI (st_sum gg k))), some (.int (nI k))] [] h2 0 0 := by
        refine nd_for _ _ ?_ ?_
        · intro f2 h hf2 hw
          refine nd_iload hC dX7_standing_26 rfl ?_
          refine nd_aload_n hC dX7_standing_28 rfl rfl ?_
          refine mo_callV (As := []) (d2 := d - 1) hC hw rfl lkX7_253 lyX7_253 (Nat.le_of_ble_eq_true rfl) (by omega) rfl (by exact Nat.le_of_ble_eq_true rfl) (Nat.zero_le _) (Nat.zero_le _) dX7_standing_29 rfl ((sp_cells hg hw ?_))
          rw [show (va_up A 38 f2) 0 1 = nI n from hc]
          first | with_reducible refine nd_icmp_geN hC (tgt := 77) (by omega) (by omega) dX7_standing_32 (by decide) (fun hq => ?_) (fun hq => ?_) | refine nd_icmp_ge hC (tgt := 77) dX7_standing_32 (by decide) (fun hq => ?_) (fun hq => ?_)
          · refine nd_iload_n hC dX7_standing_77 rfl ?_
            refine nd_ireturn hC rfl (by first | rfl | exact nd_b_nar _) (by omega) (by omega) dX7_standing_78 ((hk f2 h hf2 hw))
          · omega
        · intro k hk1 ih f2 h hf2 hw
          have egg : gg k = if tk.testBit k = true then 0 else st_go n f (pupd p c k) (tk ||| 2 ^ k) := by rw [← hgg]
          refine nd_iload hC dX7_standing_26 rfl ?_
          refine nd_aload_n hC dX7_standing_28 rfl rfl ?_
          refine mo_callV (As := []) (d2 := d - 1) hC hw rfl lkX7_253 lyX7_253 (Nat.le_of_ble_eq_true rfl) (by omega) rfl (by exact Nat.le_of_ble_eq_true rfl) (Nat.zero_le _) (Nat.zero_le _) dX7_standing_29 rfl ((sp_cells hg hw ?_))
          rw [show (va_up A 38 f2) 0 1 = nI n from hc]
          first | with_reducible refine nd_icmp_geN hC (tgt := 77) (by omega) (by omega) dX7_standing_32 (by decide) (fun hq => ?_) (fun hq => ?_) | refine nd_icmp_ge hC (tgt := 77) dX7_standing_32 (by decide) (fun hq => ?_) (fun hq => ?_)
          · omega
          · refine nd_iload_n hC dX7_standing_35 rfl ?_
            refine nd_iload hC dX7_standing_36 rfl ?_
            refine mo_callS (As := [_, _]) (d2 := d - 1) hC rfl lkX7_538 lyX7_538 (Nat.le_of_ble_eq_true rfl) (by omega) rfl (by exact Nat.le_of_ble_eq_true rfl) (Nat.zero_le _) (Nat.zero_le _) dX7_standing_38 rfl ((sp_has hg htk (by omega) ?_))
            first | with_reducible refine nd_if_eqB hC (tgt := 47) dX7_standing_41 (by decide) (fun hq2 => ?_) (fun hq2 => ?_) | with_reducible refine nd_if_eqN hC (tgt := 47) (by omega) dX7_standing_41 (by decide) (fun hq2 => ?_) (fun hq2 => ?_) | refine nd_if_eq hC (tgt := 47) dX7_standing_41 (by decide) (fun hq2 => ?_) (fun hq2 => ?_)
            · rw [if_neg (by rw [hq2]; decide)] at egg
              refine nd_aload_n hC dX7_standing_47 rfl rfl ?_
              refine mo_get_layers hC hw rfl dX7_standing_48 ?_
              refine nd_iload_n hC dX7_standing_51 rfl ?_
              refine nd_iload hC dX7_standing_52 rfl ?_
              refine mo_ast_layers hC hw (by omega) dX7_standing_54 (fun h hw => ?_)
              try simp only [va_up_up, va_up_s] at hw
              refine nd_iload_n hC dX7_standing_55 rfl ?_
              refine nd_aload_n hC dX7_standing_56 rfl rfl ?_
              refine nd_iload_n hC dX7_standing_57 rfl ?_
              refine nd_iconst hC (v := nI 1) (by rfl) dX7_standing_58 ?_
              first | with_reducible refine nd_iaddN hC dX7_standing_59 ?_ | refine nd_iadd hC dX7_standing_59 ?_
              refine nd_iload_n hC dX7_standing_60 rfl ?_
              refine nd_iconst hC (v := nI 1) (by rfl) dX7_standing_61 ?_
              refine nd_iload hC dX7_standing_62 rfl ?_
              refine nd_ishl hC dX7_standing_64 ?_
              rw [bt_shl (by omega)]
              refine nd_ior hC dX7_standing_65 ?_
              rw [nx_or]
              rw [← hc1]
              refine mo_callV (As := [_, _]) (d2 := d - 1) hC hw rfl lkX7_541 lyX7_541 (Nat.le_of_ble_eq_true rfl) (by omega) rfl (by exact Nat.le_of_ble_eq_true rfl) (Nat.zero_le _) (Nat.zero_le _) dX7_standing_66 rfl ((ihf (d - 1) (by omega) (by omega) (pupd p c k) (tk ||| 2 ^ k) (va_up A 38 (upd f2 c (nI k))) _ _ (bt_or_lt htk (by omega)) hc ?_ ?_ hw ?_))
              · intro i hi
                rw [va_up_s]
                unfold pupd
                by_cases e : i = c
                · rw [e, upd_s, if_pos rfl]
                · rw [upd_n e, if_neg e, hf2 i (by omega)]; exact hp i (by omega)
              · intro i hi
                unfold pupd
                by_cases e : i = c
                · rw [if_pos e]; omega
                · rw [if_neg e]; exact hb i (by omega)
              · intro f3 h3 hf3 hw
                rw [va_up_up] at hw
                first | with_reducible refine nd_iaddN hC dX7_standing_69 ?_ | refine nd_iadd hC dX7_standing_69 ?_
                rw [← egg]
                refine nd_istore_n hC dX7_standing_70 (Nat.le_of_ble_eq_true rfl) ?_
                first | with_reducible refine nd_iincN hC dX7_standing_71 rfl (Nat.le_of_ble_eq_true rfl) ?_ | refine nd_iinc hC dX7_standing_71 rfl rfl (Nat.le_of_ble_eq_true rfl) ?_
                refine nd_goto hC (tgt := 26) dX7_standing_74 (by decide) ?_
                refine ih f3 h3 (fun i hi => ?_) hw
                rw [hf3 i (by omega), va_up_s, upd_n (by omega)]; exact hf2 i hi
            · rw [if_pos hq2] at egg
              refine nd_goto hC (tgt := 71) dX7_standing_44 (by decide) ?_
              first | with_reducible refine nd_iincN hC dX7_standing_71 rfl (Nat.le_of_ble_eq_true rfl) ?_ | refine nd_iinc hC dX7_standing_71 rfl rfl (Nat.le_of_ble_eq_true rfl) ?_
              refine nd_goto hC (tgt := 26) dX7_standing_74 (by decide) ?_
              have e : st_sum gg (k + 1) = st_sum gg k := by show st_sum gg k + gg k = _; rw [egg]; rfl
              rw [← e]
              exact ih f2 h hf2 hw
      exact L 0 (Nat.zero_le _) (A 38) h (fun _ _ => rfl) (by rw [va_up_id]; exact hw)
    · omega
theorem sp_standing0 (hg : nd_OK g) {n : Nat} (hn : n ≤ 6) (hd : n + 2 ≤ d) (hc : A 0 1 = nI n) (hw : mo_W h0 A F B h) (hk : ∀ f2 h2, mo_W h0 (va_up A 38 f2) F B h2 → K (.inl (some (.int (nI (st_go n n (fun _ => 0) 0))))) h2) : nd_M g mX7_standing d 0 0 [.ref 101, .int (nI 0), .int (nI 0)] h K := by
  have := sp_standing (F := F) (B := B) (h0 := h0) hg hn n d (Nat.le_refl _) hd (fun _ => 0) 0 A h K (by decide) hc (fun i hi => absurd hi (by omega)) (fun i hi => absurd hi (by omega)) hw (fun f2 h2 _ hw => hk f2 h2 hw)
  rw [Nat.sub_self] at this
  exact this
theorem mp_stacks (hg : nd_OK g) (hd : 9 ≤ d) : mp_ok g h0 mX7_stacks d [] (mp_i op_stacks) := by
  intro tt S A F B h K ht hI hS hw hk
  have hn : sy_n S ≤ 6 := hS.1.1.1
  unfold mp_i op_stacks at hk
  refine nd_enter hg (by decide) rfl (Nat.le_of_ble_eq_true rfl) (fun X hC => ?_)
  refine nd_aload_n hC dX7_stacks_0 rfl rfl ?_
  refine nd_iconst hC (v := nI 0) (by rfl) dX7_stacks_1 ?_
  refine mo_put_thrown hC hw rfl dX7_stacks_2 (fun h hw => ?_)
  refine nd_aload_n hC dX7_stacks_5 rfl rfl ?_
  refine nd_iconst hC (v := nI 0) (by rfl) dX7_stacks_6 ?_
  refine nd_iconst hC (v := nI 0) (by rfl) dX7_stacks_7 ?_
  refine mo_callV (As := [_, _]) (d2 := d - 1) hC hw rfl lkX7_541 lyX7_541 (Nat.le_of_ble_eq_true rfl) (by omega) rfl (by exact Nat.le_of_ble_eq_true rfl) (Nat.zero_le _) (Nat.zero_le _) dX7_stacks_8 rfl ((sp_standing0 hg hn (by omega) hI.n hw ?_))
  intro f2 h2 hw
  refine nd_ireturn hC rfl (by first | rfl | exact nd_b_nar _) (by omega) (by omega) dX7_stacks_11 ((hk _ _ _ _ ((hI.th.ar (j := 38) rfl).t (by omega)) (va_up_s _ _ _) hw))
theorem mp_stack (hg : nd_OK g) (hd : 14 ≤ d) (x : Int32) : mp_ok g h0 mX7_stack d [.int x] (mp_i (op_stack x)) := by
  intro tt S A F B h K ht hI hS hw hk
  have hn : sy_n S ≤ 6 := hS.1.1.1
  have hok := lk_flat_ok (sy_n S)
  have hwd := lk_width hok
  have hm3 := sk_f_le x S
  unfold mp_i op_stack at hk
  refine nd_enter hg (by decide) rfl (Nat.le_of_ble_eq_true rfl) (fun X hC => ?_)
  refine nd_aload_n hC dX7_stack_0 rfl rfl ?_
  refine nd_aload_n hC dX7_stack_1 rfl rfl ?_
  refine nd_iload_n hC dX7_stack_2 rfl ?_
  refine mo_callV (As := [_]) (d2 := d - 1) hC hw rfl lkX7_531 lyX7_531 (Nat.le_of_ble_eq_true rfl) (by omega) rfl (by exact Nat.le_of_ble_eq_true rfl) (Nat.zero_le _) (Nat.zero_le _) dX7_stack_3 rfl ((sp_stackFault hg (by omega) hI hS hw ?_))
  refine mo_put_thrown hC hw rfl dX7_stack_6 (fun h hw => ?_)
  refine nd_aload_n hC dX7_stack_9 rfl rfl ?_
  refine mo_get_thrown hC hw rfl dX7_stack_10 ?_
  rw [va_up_s]
  by_cases h0c : sk_f x S = 0
  · rw [if_pos h0c] at hk
    obtain ⟨hf0, hsk⟩ := sk_f_0 h0c
    obtain ⟨t, q, htt, rfl, eq, ev⟩ := ty_f_0 hf0
    rw [ev] at hk hsk
    rw [h0c] at hw ⊢
    have hvl := (ty_stk_iff.mp hsk).1
    refine nd_if_le hC (tgt := 18) dX7_stack_13 (by decide) (fun hq => ?_) (fun hq => ?_)
    · refine nd_aload_n hC dX7_stack_18 rfl rfl ?_
      refine nd_iload_n hC dX7_stack_19 rfl ?_
      refine mo_put_askedTray hC hw rfl dX7_stack_20 (fun h hw => ?_)
      refine nd_aload_n hC dX7_stack_23 rfl rfl ?_
      refine mo_callV (As := []) (d2 := d - 1) hC hw rfl lkX7_277 lyX7_277 (Nat.le_of_ble_eq_true rfl) (by omega) rfl (by exact Nat.le_of_ble_eq_true rfl) (Nat.zero_le _) (Nat.zero_le _) dX7_stack_24 rfl ((sp_flat hg (by omega) (hI.th.uf (k := 33) rfl) hS hw ?_))
      intro A2 h2 hl kA hI2 hw
      refine nd_aload_n hC dX7_stack_27 rfl rfl ?_
      refine nd_bipush hC (v := nI 9) (by rfl) dX7_stack_28 ?_
      refine nd_iconst hC (v := nI 0) (by rfl) dX7_stack_30 ?_
      refine nd_iconst hC (v := nI 5) (by rfl) dX7_stack_31 ?_
      refine mo_callV (As := [_, _, _]) (d2 := d - 1) hC hw rfl lkX7_502 lyX7_502 (Nat.le_of_ble_eq_true rfl) (by omega) rfl (by exact Nat.le_of_ble_eq_true rfl) (Nat.zero_le _) (Nat.zero_le _) dX7_stack_32 rfl ((sp_askS hg (d0 := 4) none hI2 hn (by omega) (by omega) (by omega) (fun d2 hd2 => se_stacked_ok hg hd2 hn (by omega) htt ((hI2.2.2.1 t htt).2 q eq).2 hvl hI2.n rfl) (fun s A F B f q => ⟨q.1.up19 f, q.2.1, mo_kept_up q.2.2⟩) (fun s A F B f q => ⟨q.1.up25 f, q.2.1, mo_kept_up q.2.2⟩) (by omega) (by omega) hw hl hok ⟨⟨fun _ _ _ _ => rfl, fun _ _ => rfl, fun _ _ => rfl⟩, rfl, rfl, rfl⟩ (lv_B_T _ _ (fun _ => trivial) _ _) ?_))
      intro A3 F3 B3 h3 hiv hI3 e4 e27 e33 hw
      have hkept := hiv.2.2
      generalize hR : fd_r (fun e => lk_stack (sy_n S) e.2 q.2) (lv_all 5 (lk_flat (sy_n S))) = R at *
      rw [show (lv_go (se_fd (fun e => lk_stack (sy_n S) e.2 q.2)) none (lv_all 5 (lk_flat (sy_n S)))).1 = R from hR] at hkept
      refine nd_aload_n hC dX7_stack_35 rfl rfl ?_
      refine mo_get_rowBest hC hw rfl dX7_stack_36 ?_
      cases R with
      | none =>
        rw [hkept.1]
        refine nd_ireturn hC rfl (by first | rfl | exact nd_b_nar _) (by omega) (by omega) dX7_stack_39 ((hk _ _ _ _ (hI3.t (by omega)) (e4.trans rfl) hw))
      | some r =>
        rw [hkept.2.1]
        refine nd_ireturn hC rfl (by first | rfl | exact nd_b_nar _) (by omega) (by omega) dX7_stack_39 ((hk _ _ _ _ (hI3.t (by omega)) (e4.trans rfl) hw))
    · exact absurd hq (by decide)
  · rw [if_neg h0c] at hk
    refine nd_if_le hC (tgt := 18) dX7_stack_13 (by decide) (fun hq => ?_) (fun hq => ?_)
    · exact absurd hq (nI_gt0 (by omega) (by omega))
    · refine nd_iconst hC (v := nI 0) (by rfl) dX7_stack_16 ?_
      refine nd_ireturn hC rfl (by first | rfl | exact nd_b_nar _) (by omega) (by omega) dX7_stack_17 ((hk A _ B _ (hI.th.t (by omega)) (va_up_s _ _ _) hw))
end MO34

