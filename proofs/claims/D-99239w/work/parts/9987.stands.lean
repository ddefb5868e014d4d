set_option maxRecDepth 100000
/-! ===== stacks of the class ===== -/
def btwI (v a b : Nat) : Bool := decide (min a b ≤ v) && decide (v ≤ max a b)
def cs_atI (n : Nat) (p : Nat → Nat) (k l : Nat) : Bool := !decide (k + 2 ≤ l ∧ l + 1 < n ∧ (l - k) % 2 = 0) || (btwI (p l) (p k) (p (k + 1)) == btwI (p (l + 1)) (p k) (p (k + 1)))
def cs_okI (n : Nat) (p : Nat → Nat) : Bool := (List.range n).all (fun k => (List.range n).all (fun l => cs_atI n p k l))
/-- places by cells -/
def sc_pl (s : Nat → Nat) : Nat → Nat → Nat
  | 0 => fun _ => 0
  | k + 1 => pupd (sc_pl s k) (s k) k
def sc_go (n : Nat) : Nat → (Nat → Nat) → Nat → Nat
  | 0, s, _ => if cs_okI n (sc_pl s n) = true then 1 else 0
  | f + 1, s, tk => st_sum (fun c => if tk.testBit c = true then 0 else sc_go n f (pupd s (n - (f + 1)) c) (tk ||| 2 ^ c)) n
/-- how many rows are laid -/
def sc_n (n : Nat) : Nat → Nat → Nat
  | 0, _ => 1
  | f + 1, tk => st_sum (fun c => if tk.testBit c = true then 0 else sc_n n f (tk ||| 2 ^ c)) n
theorem sc_same : ∀ n, n ≤ 6 → sc_go n n (fun _ => 0) 0 = st_go n n (fun _ => 0) 0 := by decide +kernel
theorem sc_n6 : ∀ n, n ≤ 6 → sc_n n n 0 ≤ 720 := by decide +kernel
theorem sc_le6 : ∀ n, n ≤ 6 → sc_go n n (fun _ => 0) 0 ≤ 720 := by decide +kernel
theorem sc_pl_le (s : Nat → Nat) (k i : Nat) : sc_pl s k i ≤ k := by
  induction k with
  | zero => exact Nat.zero_le _
  | succ k ih =>
    show pupd (sc_pl s k) (s k) k i ≤ k + 1
    unfold pupd
    split <;> omega
theorem sc_pl_inv (s : Nat → Nat) (c : Nat) : ∀ k, (∃ j, j < k ∧ s j = c) → sc_pl s k c < k ∧ s (sc_pl s k c) = c := by
  intro k
  induction k with
  | zero => rintro ⟨j, hj, -⟩; exact absurd hj (Nat.not_lt_zero _)
  | succ k ih =>
    rintro ⟨j, hj, e⟩
    show pupd (sc_pl s k) (s k) k c < k + 1 ∧ s (pupd (sc_pl s k) (s k) k c) = c
    unfold pupd
    by_cases z : c = s k
    · rw [if_pos z]; exact ⟨by omega, z.symm⟩
    · rw [if_neg z]
      have : j ≠ k := fun q => z (by rw [← e, q])
      obtain ⟨h1, h2⟩ := ih ⟨j, by omega, e⟩
      exact ⟨by omega, h2⟩
theorem btw_eq {v a b : Nat} (h1 : v ≠ a) (h2 : v ≠ b) : btwI v a b = btw v a b := by
  unfold btwI btw
  rw [Bool.eq_iff_iff, Bool.and_eq_true, decide_eq_true_iff, decide_eq_true_iff, decide_eq_true_iff]
  omega
theorem cs_okI_eq {n : Nat} {p : Nat → Nat} (hp : ∀ a b, a < n → b < n → p a = p b → a = b) : cs_okI n p = cs_ok n p := by
  have e : ∀ k l, cs_atI n p k l = cs_at n p k l := by
    intro k l
    unfold cs_atI cs_at
    by_cases z : k + 2 ≤ l ∧ l + 1 < n ∧ (l - k) % 2 = 0
    · rw [btw_eq (fun q => by have := hp l k (by omega) (by omega) q; omega) (fun q => by have := hp l (k + 1) (by omega) (by omega) q; omega), btw_eq (fun q => by have := hp (l + 1) k (by omega) (by omega) q; omega) (fun q => by have := hp (l + 1) (k + 1) (by omega) (by omega) q; omega)]
    · rw [decide_eq_false z]; rfl
  unfold cs_okI cs_ok
  congr 1
  funext k
  congr 1
  funext l
  exact e k l
theorem st_sum_le {f : Nat → Nat} {c n : Nat} (h : c ≤ n) : st_sum f c ≤ st_sum f n := by
  induction n with
  | zero => have : c = 0 := by omega
            subst this; exact Nat.le_refl _
  | succ n ih =>
    by_cases z : c = n + 1
    · subst z; exact Nat.le_refl _
    · have := ih (by omega)
      show st_sum f c ≤ st_sum f n + f n
      omega
theorem l_at_last {h : nd_H} {c : nd_C} : (h ++ [c])[h.length]? = some c := List.getElem?_concat_length ..
theorem sk_step {n : Nat} {v : List Int64} (hn : n ≤ 6) (hvl : v.length = n) (h : ty_stk n v = true) {k : Nat} (hk : k < n) : (0 ≤ (v.getD k 0).toInt ∧ (v.getD k 0).toInt ≤ (n : Int) - 1) ∧ (sk_m n v k).testBit (v.getD k 0).toInt.toNat = false := by
  obtain ⟨w, hw, ew⟩ := sk_in hn hvl h k hk
  have et : (v.getD k 0).toInt = (w : Int) := by rw [ew, lN_toInt (by omega)]
  refine ⟨by omega, ?_⟩
  rw [et, Int.toNat_natCast]
  rw [Bool.eq_false_iff]
  intro q
  obtain ⟨-, j, hj, ej⟩ := (sk_m_bit w k).mp q
  have hall := (ty_stk_iff.mp h).2
  have hnd : ((List.range n).map lN).Nodup := by
    unfold List.Nodup
    rw [List.pairwise_map]
    refine List.Pairwise.imp_of_mem (fun {a b} ha hb hab q => ?_) (List.nodup_range (n := n))
    have := congrArg Int64.toInt q
    rw [List.mem_range] at ha hb
    rw [lN_toInt (by omega), lN_toInt (by omega)] at this
    omega
  have := l_nd_le ((List.range n).map lN) (v.eraseIdx k) hnd (fun x hx => by
    obtain ⟨c, hc, rfl⟩ := List.mem_map.mp hx
    obtain ⟨i, hi, e⟩ := hall c (List.mem_range.mp hc)
    have hin : ∀ m, m < n → m ≠ k → v.getD m 0 ∈ v.eraseIdx k := fun m hm hmk => by
      rw [List.mem_eraseIdx_iff_getElem]
      refine ⟨m, by omega, hmk, ?_⟩
      rw [List.getD_eq_getElem?_getD, List.getElem?_eq_getElem (by omega)]; rfl
    by_cases z : i = k
    · subst z
      have e2 : v.getD j 0 = lN w := lN_of_toInt ej (by omega)
      rw [← e, ew, ← e2]
      exact hin j (by omega) (by omega)
    · rw [← e]; exact hin i hi z)
  rw [List.length_map, List.length_range, List.length_eraseIdx_of_lt (by omega)] at this
  omega
theorem sk_done {n : Nat} {v : List Int64} (hn : n ≤ 6) (hvl : v.length = n) (h : ∀ k, k < n → (0 ≤ (v.getD k 0).toInt ∧ (v.getD k 0).toInt ≤ (n : Int) - 1) ∧ (sk_m n v k).testBit (v.getD k 0).toInt.toNat = false) : ty_stk n v = true := by
  rw [ty_stk_iff]
  refine ⟨hvl, fun c hc => ?_⟩
  have hg : ∀ i (hi : i < v.length), v[i] = v.getD i 0 := fun i hi => by rw [List.getD_eq_getElem?_getD, List.getElem?_eq_getElem hi]; rfl
  have hnd : v.Nodup := by
    unfold List.Nodup
    rw [List.pairwise_iff_getElem]
    intro i j hi hj hij e
    rw [hg i hi, hg j hj] at e
    have h1 := h j (by omega)
    have h2 : (sk_m n v j).testBit (v.getD j 0).toInt.toNat = true := (sk_m_bit _ _).mpr ⟨by omega, i, hij, by rw [e]; omega⟩
    rw [h1.2] at h2
    exact absurd h2 (by decide)
  have hsub : ∀ x, x ∈ v → x ∈ (List.range n).map lN := fun x hx => by
    obtain ⟨i, hi, rfl⟩ := List.getElem_of_mem hx
    rw [hg i hi]
    have h1 := h i (by omega)
    exact List.mem_map.mpr ⟨(v.getD i 0).toInt.toNat, List.mem_range.mpr (by omega), (lN_of_toInt (by omega) (by omega)).symm⟩
  have := nd_sub_len v ((List.range n).map lN) hnd hsub (by rw [List.length_map, List.length_range]; omega) (lN c) (List.mem_map.mpr ⟨c, List.mem_range.mpr hc, rfl⟩)
  obtain ⟨j, hj, e⟩ := List.getElem_of_mem this
  exact ⟨j, by omega, by rw [← hg j hj]; exact e⟩
section CP87
variable {g : nd_G} {d : Nat} {K : nd_K} {h : nd_H} {o : Nat → Nat} {nap : Nat} {ds : List Nat} {gi : Nat → Value} {dss : Nat → List Nat} {S : sy_S}
theorem ci_has (hg : nd_OK g) {m j : Nat} (hm : m < 64) (hj : j < 6) (hk : K (.inl (some (.int (nd_b (m.testBit j))))) h) : nd_M g mX1_has d 0 0 [.int (nI m), .int (nI j)] h K := by
  refine nd_enter hg (by decide) rfl (Nat.le_of_ble_eq_true rfl) (fun X hC => ?_)
  refine nd_iload_n hC dX1_has_0 rfl ?_
  refine nd_iload_n hC dX1_has_1 rfl ?_
  refine nd_ishr hC dX1_has_2 ?_
  refine nd_iconst hC (v := nI 1) (by rfl) dX1_has_3 ?_
  refine nd_iand hC dX1_has_4 ?_
  rw [bt_has hm hj]
  refine nd_iconst hC (v := nI 1) (by rfl) dX1_has_5 ?_
  cases e : m.testBit j with
  | true =>
    rw [e] at hk
    refine nd_icmp_ne hC (tgt := 13) dX1_has_6 (by decide) (fun hq => absurd rfl hq) (fun hq => ?_)
    refine nd_iconst hC (v := nI 1) (by rfl) dX1_has_9 ?_
    refine nd_goto hC (tgt := 14) dX1_has_10 (by decide) ?_
    refine nd_ireturn hC rfl (by first | rfl | exact nd_b_nar _) (by omega) (by omega) dX1_has_14 (hk)
  | false =>
    rw [e] at hk
    refine nd_icmp_ne hC (tgt := 13) dX1_has_6 (by decide) (fun hq => ?_) (fun hq => absurd hq (by decide))
    refine nd_iconst hC (v := nI 0) (by rfl) dX1_has_13 ?_
    refine nd_ireturn hC rfl (by first | rfl | exact nd_b_nar _) (by omega) (by omega) dX1_has_14 (hk)
theorem ci_stands (hg : nd_OK g) (hd : 1 ≤ d) {A n : Nat} {f : Nat → Int32} {s : Nat → Nat} (hn : n ≤ 6) (hA : h[A]? = some (.inl (0, n, .inl f))) (hf : ∀ i, i < n → f i = nI (s i)) (hs : ∀ i, i < n → s i < n) (hk : ∀ c, K (.inl (some (.int (nd_b (cs_okI n (sc_pl s n)))))) (h ++ [c])) : nd_M g mX1_stands d 1 6 [.ref A] h K := by
  have hAl := nd_get_lt hA
  have hA1 : ∀ c, (h ++ [c])[A]? = some (.inl (0, n, .inl f)) := fun c => (List.getElem?_append_left hAl).trans hA
  have hP1 : ∀ pf : Nat → Int32, (h ++ [(.inl (0, n, .inl pf) : nd_C)])[h.length]? = some (.inl (0, n, .inl pf)) := fun pf => l_at_last
  refine nd_enter hg (by decide) rfl (Nat.le_of_ble_eq_true rfl) (fun X hC => ?_)
  refine nd_aload_n hC dX1_stands_0 rfl rfl ?_
  refine nd_alen hC rfl hA dX1_stands_1 ?_
  refine nd_newarray hC (atype := .int) (ty := 0) .int (.inl (fun _ => 0)) q322 rfl rfl (fun _ _ => rfl) (N := n) rfl (nI_toInt (by omega)) (by show n * 4 ≤ 536870912; omega) (by omega) (by omega) dX1_stands_2 ?_
  refine nd_widen (cs2 := 1) (ss2 := 6) (by omega) (by omega) ?_
  refine nd_astore_n hC dX1_stands_4 (Nat.le_of_ble_eq_true rfl) rfl ?_
  refine nd_iconst hC (v := nI 0) (by rfl) dX1_stands_5 ?_
  refine nd_istore_n hC dX1_stands_6 (Nat.le_of_ble_eq_true rfl) ?_
  have LB : ∀ pf, (∀ i, i < n → pf i = nI (sc_pl s n i)) → ∀ l2, nd_W g mX1_stands d 1 6 K X 25 [some (.ref A), some (.ref h.length), l2, none, none, none] [] (h ++ [.inl (0, n, .inl pf)]) 1 6 := by
    intro pf hpf l2
    have hA2 := hA1 (.inl (0, n, .inl pf))
    have hP2 := hP1 pf
    have hple := sc_pl_le s n
    generalize sc_pl s n = p at hk hpf hple
    have JX : (∀ k, k < n → ∀ l, l < n → cs_atI n p k l = true) → ∀ l2 l3 l4 l5, nd_W g mX1_stands d 1 6 K X 119 [some (.ref A), some (.ref h.length), l2, l3, l4, l5] [] (h ++ [.inl (0, n, .inl pf)]) 1 6 := by
      intro hall l2 l3 l4 l5
      have e : cs_okI n p = true := nd_allT (fun k hk => nd_allT (fun l hl => hall k hk l hl))
      rw [e] at hk
      refine nd_iconst hC (v := nI 1) (by rfl) dX1_stands_119 ?_
      refine nd_ireturn hC rfl (by first | rfl | exact nd_b_nar _) (by omega) (by omega) dX1_stands_120 ((hk _))
    refine nd_iconst hC (v := nI 0) (by rfl) dX1_stands_25 ?_
    refine nd_istore_n hC dX1_stands_26 (Nat.le_of_ble_eq_true rfl) ?_
    have L2 : ∀ k, k ≤ n → (∀ k', k' < k → ∀ l, l < n → cs_atI n p k' l = true) → ∀ l3 l4 l5, nd_W g mX1_stands d 1 6 K X 27 [some (.ref A), some (.ref h.length), some (.int (nI k)), l3, l4, l5] [] (h ++ [.inl (0, n, .inl pf)]) 1 6 := by
      refine nd_for _ _ ?_ ?_
      · intro hall l3 l4 l5
        refine nd_iload_n hC dX1_stands_27 rfl ?_
        refine nd_iconst hC (v := nI 1) (by rfl) dX1_stands_28 ?_
        first | with_reducible refine nd_iaddN hC dX1_stands_29 ?_ | refine nd_iadd hC dX1_stands_29 ?_
        refine nd_aload_n hC dX1_stands_30 rfl rfl ?_
        refine nd_alen hC rfl hA2 dX1_stands_31 ?_
        first | with_reducible refine nd_icmp_geN hC (tgt := 119) (by omega) (by omega) dX1_stands_32 (by decide) (fun hq => ?_) (fun hq => ?_) | refine nd_icmp_ge hC (tgt := 119) dX1_stands_32 (by decide) (fun hq => ?_) (fun hq => ?_)
        · exact JX (fun k hk l hl => hall k hk l hl) _ _ _ _
        · omega
      · intro k hkn ih hall l3 l4 l5
        refine nd_iload_n hC dX1_stands_27 rfl ?_
        refine nd_iconst hC (v := nI 1) (by rfl) dX1_stands_28 ?_
        first | with_reducible refine nd_iaddN hC dX1_stands_29 ?_ | refine nd_iadd hC dX1_stands_29 ?_
        refine nd_aload_n hC dX1_stands_30 rfl rfl ?_
        refine nd_alen hC rfl hA2 dX1_stands_31 ?_
        first | with_reducible refine nd_icmp_geN hC (tgt := 119) (by omega) (by omega) dX1_stands_32 (by decide) (fun hq => ?_) (fun hq => ?_) | refine nd_icmp_ge hC (tgt := 119) dX1_stands_32 (by decide) (fun hq => ?_) (fun hq => ?_)
        · refine JX (fun k2 hk2 l hl => ?_) _ _ _ _
          by_cases z : k2 < k
          · exact hall k2 z l hl
          · unfold cs_atI
            rw [decide_eq_false (by omega)]; rfl
        have hp1 := hple k
        have hp2 := hple (k + 1)
        refine nd_aload_n hC dX1_stands_35 rfl rfl ?_
        refine nd_iload_n hC dX1_stands_36 rfl ?_
        refine nd_ialoadN hC hP2 (by omega) (by omega) dX1_stands_37 ?_
        refine nd_v_eq (congrArg Value.int (hpf k (by omega))) ?_
        refine nd_aload_n hC dX1_stands_38 rfl rfl ?_
        refine nd_iload_n hC dX1_stands_39 rfl ?_
        refine nd_iconst hC (v := nI 1) (by rfl) dX1_stands_40 ?_
        first | with_reducible refine nd_iaddN hC dX1_stands_41 ?_ | refine nd_iadd hC dX1_stands_41 ?_
        refine nd_ialoadN hC hP2 (by omega) (by omega) dX1_stands_42 ?_
        refine nd_v_eq (congrArg Value.int (hpf (k + 1) (by omega))) ?_
        first | ((with_reducible refine nd_tst2 ?_); refine nd_mminN hC (by omega) (by omega) q944 (by omega) (by omega) (by exact Nat.le_of_ble_eq_true rfl) dX1_stands_43 ?_) | refine nd_mmin hC q944 (by omega) (by omega) (by exact Nat.le_of_ble_eq_true rfl) dX1_stands_43 ?_
        refine nd_istore_n hC dX1_stands_46 (Nat.le_of_ble_eq_true rfl) ?_
        refine nd_aload_n hC dX1_stands_47 rfl rfl ?_
        refine nd_iload_n hC dX1_stands_48 rfl ?_
        refine nd_ialoadN hC hP2 (by omega) (by omega) dX1_stands_49 ?_
        refine nd_v_eq (congrArg Value.int (hpf k (by omega))) ?_
        refine nd_aload_n hC dX1_stands_50 rfl rfl ?_
        refine nd_iload_n hC dX1_stands_51 rfl ?_
        refine nd_iconst hC (v := nI 1) (by rfl) dX1_stands_52 ?_
        first | with_reducible refine nd_iaddN hC dX1_stands_53 ?_ | refine nd_iadd hC dX1_stands_53 ?_
        refine nd_ialoadN hC hP2 (by omega) (by omega) dX1_stands_54 ?_
        refine nd_v_eq (congrArg Value.int (hpf (k + 1) (by omega))) ?_
        first | ((with_reducible refine nd_tst2 ?_); refine nd_mmaxN hC (by omega) (by omega) q1056 (by omega) (by omega) (by exact Nat.le_of_ble_eq_true rfl) dX1_stands_55 ?_) | refine nd_mmax hC q1056 (by omega) (by omega) (by exact Nat.le_of_ble_eq_true rfl) dX1_stands_55 ?_
        refine nd_istore hC dX1_stands_58 (Nat.le_of_ble_eq_true rfl) ?_
        refine nd_iload_n hC dX1_stands_60 rfl ?_
        refine nd_iconst hC (v := nI 2) (by rfl) dX1_stands_61 ?_
        first | with_reducible refine nd_iaddN hC dX1_stands_62 ?_ | refine nd_iadd hC dX1_stands_62 ?_
        refine nd_istore hC dX1_stands_63 (Nat.le_of_ble_eq_true rfl) ?_
        have L3 : ∀ l, k + 2 ≤ l → (l - k) % 2 = 0 → l ≤ n + 1 → (∀ l', l' < l → l' < n → cs_atI n p k l' = true) → nd_W g mX1_stands d 1 6 K X 65 [some (.ref A), some (.ref h.length), some (.int (nI k)), some (.int (nI (min (p k) (p (k + 1))))), some (.int (nI (max (p k) (p (k + 1))))), some (.int (nI l))] [] (h ++ [.inl (0, n, .inl pf)]) 1 6 := by
          refine nd_wh (fun l => n + 3 - l) _ ?_
          intro l ih3 hl1 hl2 hl3 hall3
          refine nd_iload hC dX1_stands_65 rfl ?_
          refine nd_iconst hC (v := nI 1) (by rfl) dX1_stands_67 ?_
          first | with_reducible refine nd_iaddN hC dX1_stands_68 ?_ | refine nd_iadd hC dX1_stands_68 ?_
          refine nd_aload_n hC dX1_stands_69 rfl rfl ?_
          refine nd_alen hC rfl hA2 dX1_stands_70 ?_
          first | with_reducible refine nd_icmp_geN hC (tgt := 113) (by omega) (by omega) dX1_stands_71 (by decide) (fun hq2 => ?_) (fun hq2 => ?_) | refine nd_icmp_ge hC (tgt := 113) dX1_stands_71 (by decide) (fun hq2 => ?_) (fun hq2 => ?_)
          · first | with_reducible refine nd_iincN hC dX1_stands_113 rfl (Nat.le_of_ble_eq_true rfl) ?_ | refine nd_iinc hC dX1_stands_113 rfl rfl (Nat.le_of_ble_eq_true rfl) ?_
            refine nd_goto hC (tgt := 27) dX1_stands_116 (by decide) ?_
            refine ih (fun k' hk' l' hl' => ?_) _ _ _
            by_cases z : k' < k
            · exact hall k' z l' hl'
            · have : k' = k := by omega
              subst this
              by_cases z2 : l' < l
              · exact hall3 l' z2 hl'
              · unfold cs_atI
                rw [decide_eq_false (by omega)]; rfl
          have hp3 := hple l
          have hp4 := hple (l + 1)
          refine nd_aload_n hC dX1_stands_74 rfl rfl ?_
          refine nd_iload hC dX1_stands_75 rfl ?_
          refine nd_ialoadN hC hP2 (by omega) (by omega) dX1_stands_77 ?_
          refine nd_v_eq (congrArg Value.int (hpf l (by omega))) ?_
          first | with_reducible refine nd_i2lN hC (by omega) dX1_stands_78 ?_ | refine nd_i2l hC dX1_stands_78 ?_
          refine nd_iload_n hC dX1_stands_79 rfl ?_
          first | with_reducible refine nd_i2lN hC (by omega) dX1_stands_80 ?_ | refine nd_i2l hC dX1_stands_80 ?_
          refine nd_iload hC dX1_stands_81 rfl ?_
          first | with_reducible refine nd_i2lN hC (by omega) dX1_stands_83 ?_ | refine nd_i2l hC dX1_stands_83 ?_
          refine nd_callS (mm2 := mX1_isIn) (As := [_, _, _]) (mc2 := 0) (ms2 := 0) (d2 := d - 1) hC rfl lkX1_106 lmX1_isIn (Nat.le_of_ble_eq_true rfl) (by omega) rfl (by exact Nat.le_of_ble_eq_true rfl) (by omega) (by omega) dX1_stands_84 rfl ((ci_isIn hg ?_))
          have e1 : (decide (lN (min (p k) (p (k + 1))) ≤ lN (p l)) && decide (lN (p l) ≤ lN (max (p k) (p (k + 1))))) = btwI (p l) (p k) (p (k + 1)) := by
            unfold btwI
            rw [Bool.eq_iff_iff, Bool.and_eq_true, nd_lle, nd_lle, lN_toInt (by omega), lN_toInt (by omega), lN_toInt (by omega), Bool.and_eq_true, decide_eq_true_iff, decide_eq_true_iff]
            omega
          rw [e1]
          refine nd_aload_n hC dX1_stands_87 rfl rfl ?_
          refine nd_iload hC dX1_stands_88 rfl ?_
          refine nd_iconst hC (v := nI 1) (by rfl) dX1_stands_90 ?_
          first | with_reducible refine nd_iaddN hC dX1_stands_91 ?_ | refine nd_iadd hC dX1_stands_91 ?_
          refine nd_ialoadN hC hP2 (by omega) (by omega) dX1_stands_92 ?_
          refine nd_v_eq (congrArg Value.int (hpf (l + 1) (by omega))) ?_
          first | with_reducible refine nd_i2lN hC (by omega) dX1_stands_93 ?_ | refine nd_i2l hC dX1_stands_93 ?_
          refine nd_iload_n hC dX1_stands_94 rfl ?_
          first | with_reducible refine nd_i2lN hC (by omega) dX1_stands_95 ?_ | refine nd_i2l hC dX1_stands_95 ?_
          refine nd_iload hC dX1_stands_96 rfl ?_
          first | with_reducible refine nd_i2lN hC (by omega) dX1_stands_98 ?_ | refine nd_i2l hC dX1_stands_98 ?_
          refine nd_callS (mm2 := mX1_isIn) (As := [_, _, _]) (mc2 := 0) (ms2 := 0) (d2 := d - 1) hC rfl lkX1_106 lmX1_isIn (Nat.le_of_ble_eq_true rfl) (by omega) rfl (by exact Nat.le_of_ble_eq_true rfl) (by omega) (by omega) dX1_stands_99 rfl ((ci_isIn hg ?_))
          have e2 : (decide (lN (min (p k) (p (k + 1))) ≤ lN (p (l + 1))) && decide (lN (p (l + 1)) ≤ lN (max (p k) (p (k + 1))))) = btwI (p (l + 1)) (p k) (p (k + 1)) := by
            unfold btwI
            rw [Bool.eq_iff_iff, Bool.and_eq_true, nd_lle, nd_lle, lN_toInt (by omega), lN_toInt (by omega), lN_toInt (by omega), Bool.and_eq_true, decide_eq_true_iff, decide_eq_true_iff]
            omega
          rw [e2]
          refine nd_icmp_eq hC (tgt := 107) dX1_stands_102 (by decide) (fun hq3 => ?_) (fun hq3 => ?_)
          · have hq3 := nd_b_eq.1 hq3
            refine nd_iinc hC dX1_stands_107 rfl (nI_add l 2) (Nat.le_of_ble_eq_true rfl) ?_
            refine nd_goto hC (tgt := 65) dX1_stands_110 (by decide) ?_
            refine ih3 (l + 2) (by omega) (by omega) (by omega) (by omega) (fun l' h1 h2 => ?_)
            by_cases z : l' < l
            · exact hall3 l' z h2
            · by_cases z2 : l' = l
              · subst z2
                unfold cs_atI
                rw [hq3, beq_self_eq_true, Bool.or_true]
              · unfold cs_atI
                rw [decide_eq_false (by omega)]; rfl
          · have hq3 : ¬ btwI (p l) (p k) (p (k + 1)) = btwI (p (l + 1)) (p k) (p (k + 1)) := fun q => hq3 (nd_b_eq.2 q)
            have e : cs_okI n p = false := by
              refine nd_allF (j := k) hkn (nd_allF (j := l) (by omega) ?_)
              unfold cs_atI
              rw [decide_eq_true (by omega), beq_eq_false_iff_ne.2 hq3]; rfl
            rw [e] at hk
            refine nd_iconst hC (v := nI 0) (by rfl) dX1_stands_105 ?_
            refine nd_ireturn hC rfl (by first | rfl | exact nd_b_nar _) (by omega) (by omega) dX1_stands_106 ((hk _))
        exact L3 (k + 2) (Nat.le_refl _) (by omega) (by omega) (fun l' h1 h2 => by
          unfold cs_atI
          rw [decide_eq_false (by omega)]; rfl)
    exact L2 0 (Nat.zero_le _) (fun k' hk' => absurd hk' (Nat.not_lt_zero _)) _ _ _
  have L1 : ∀ k, k ≤ n → ∀ pf, (∀ i, i < n → pf i = nI (sc_pl s k i)) → nd_W g mX1_stands d 1 6 K X 7 [some (.ref A), some (.ref h.length), some (.int (nI k)), none, none, none] [] (h ++ [.inl (0, n, .inl pf)]) 1 6 := by
    refine nd_for _ _ ?_ ?_
    · intro pf hpf
      have hA2 := hA1 (.inl (0, n, .inl pf))
      refine nd_iload_n hC dX1_stands_7 rfl ?_
      refine nd_aload_n hC dX1_stands_8 rfl rfl ?_
      refine nd_alen hC rfl hA2 dX1_stands_9 ?_
      first | with_reducible refine nd_icmp_geN hC (tgt := 25) (by omega) (by omega) dX1_stands_10 (by decide) (fun hq => ?_) (fun hq => ?_) | refine nd_icmp_ge hC (tgt := 25) dX1_stands_10 (by decide) (fun hq => ?_) (fun hq => ?_)
      · exact LB pf hpf _
      · omega
    · intro k hkn ih pf hpf
      have hA2 := hA1 (.inl (0, n, .inl pf))
      have hP2 := hP1 pf
      have hsk := hs k hkn
      refine nd_iload_n hC dX1_stands_7 rfl ?_
      refine nd_aload_n hC dX1_stands_8 rfl rfl ?_
      refine nd_alen hC rfl hA2 dX1_stands_9 ?_
      first | with_reducible refine nd_icmp_geN hC (tgt := 25) (by omega) (by omega) dX1_stands_10 (by decide) (fun hq => ?_) (fun hq => ?_) | refine nd_icmp_ge hC (tgt := 25) dX1_stands_10 (by decide) (fun hq => ?_) (fun hq => ?_)
      · omega
      refine nd_aload_n hC dX1_stands_13 rfl rfl ?_
      refine nd_aload_n hC dX1_stands_14 rfl rfl ?_
      refine nd_iload_n hC dX1_stands_15 rfl ?_
      refine nd_ialoadN hC hA2 (by omega) (by omega) dX1_stands_16 ?_
      refine nd_v_eq (congrArg Value.int (hf k (by omega))) ?_
      refine nd_iload_n hC dX1_stands_17 rfl ?_
      refine nd_iastoreN hC hP2 hsk (by omega) dX1_stands_18 ?_
      rw [l_set_last]
      first | with_reducible refine nd_iincN hC dX1_stands_19 rfl (Nat.le_of_ble_eq_true rfl) ?_ | refine nd_iinc hC dX1_stands_19 rfl rfl (Nat.le_of_ble_eq_true rfl) ?_
      refine nd_goto hC (tgt := 7) dX1_stands_22 (by decide) ?_
      refine ih _ (fun i hi => ?_)
      show upd pf (s k) (nI k) i = nI (pupd (sc_pl s k) (s k) k i)
      unfold pupd
      by_cases z : i = s k
      · subst z; rw [upd_s, if_pos rfl]
      · rw [upd_n z, if_neg z]; exact hpf i hi
  exact L1 0 (Nat.zero_le _) _ (fun i hi => rfl)
theorem cx_stacksFrom (hg : nd_OK g) {A n : Nat} (hn : n ≤ 6) : ∀ (fu k : Nat), k + fu = n → ∀ (d : Nat) (h : nd_H) (K : nd_K) (s : Nat → Nat) (tk : Nat) (f : Nat → Int32), 2 * fu + 3 ≤ d → tk < 64 → (∀ x0, h[0]? = some x0 → ∃ fs, x0 = .inr (nX1, fs)) → 0 < h.length → h[A]? = some (.inl (0, n, .inl f)) → A ≠ 0 → (∀ i, i < k → f i = nI (s i)) → (∀ i, i < k → s i < n) → (∀ h2 f2, h.length ≤ h2.length → (∀ a, a < h.length → a ≠ A → h2[a]? = h[a]?) → h2[A]? = some (.inl (0, n, .inl f2)) → (∀ i, i < k → f2 i = f i) → K (.inl (some (.int (nI (sc_go n fu s tk))))) h2) → nd_M g mX1_stacksFrom d (sc_n n fu tk) (6 * sc_n n fu tk) [.ref 0, .ref A, .int (nI k), .int (nI tk)] h K := by
  intro fu
  induction fu with
  | zero =>
    intro k hkn d h K s tk f hd ht h0 hl hA hA0 hf hs hk
    have e : k = n := by omega
    subst e
    refine nd_enter hg (by decide) rfl (Nat.le_of_ble_eq_true rfl) (fun X hC => ?_)
    refine nd_iload_n hC dX1_stacksFrom_0 rfl ?_
    refine nd_aload_n hC dX1_stacksFrom_1 rfl rfl ?_
    refine nd_alen hC rfl hA dX1_stacksFrom_2 ?_
    first | with_reducible refine nd_icmp_neN hC (tgt := 19) (by omega) (by omega) dX1_stacksFrom_3 (by decide) (fun hq => ?_) (fun hq => ?_) | refine nd_icmp_ne hC (tgt := 19) dX1_stacksFrom_3 (by decide) (fun hq => ?_) (fun hq => ?_)
    · omega
    refine nd_aload_n hC dX1_stacksFrom_6 rfl rfl ?_
    show nd_W g mX1_stacksFrom d 1 6 _ _ _ _ _ _ _ _
    refine nd_callS (mm2 := mX1_stands) (As := [_]) (mc2 := 1) (ms2 := 6) (d2 := d - 1) hC rfl lkX1_454 lmX1_stands (Nat.le_of_ble_eq_true rfl) (by omega) rfl (by exact Nat.le_of_ble_eq_true rfl) (by omega) (by omega) dX1_stacksFrom_7 rfl ((ci_stands hg (by omega) hn hA hf hs (fun c => ?_)))
    have R := hk (h ++ [c]) f (by rw [List.length_append]; omega) (fun a ha _ => List.getElem?_append_left ha) ((List.getElem?_append_left (nd_get_lt hA)).trans hA) (fun _ _ => rfl)
    unfold sc_go at R
    cases e : cs_okI k (sc_pl s k) with
    | true =>
      rw [e, if_pos rfl] at R
      refine nd_if_eqB hC (tgt := 17) dX1_stacksFrom_10 (by decide) (fun hq => absurd hq (by decide)) (fun hq => ?_)
      refine nd_iconst hC (v := nI 1) (by rfl) dX1_stacksFrom_13 ?_
      refine nd_goto hC (tgt := 18) dX1_stacksFrom_14 (by decide) ?_
      refine nd_ireturn hC rfl (by first | rfl | exact nd_b_nar _) (by omega) (by omega) dX1_stacksFrom_18 (R)
    | false =>
      rw [e, if_neg (by decide)] at R
      refine nd_if_eqB hC (tgt := 17) dX1_stacksFrom_10 (by decide) (fun hq => ?_) (fun hq => absurd hq (by decide))
      refine nd_iconst hC (v := nI 0) (by rfl) dX1_stacksFrom_17 ?_
      refine nd_ireturn hC rfl (by first | rfl | exact nd_b_nar _) (by omega) (by omega) dX1_stacksFrom_18 (R)
  | succ fu ih =>
    intro k hkn d h K s tk f hd ht h0 hl hA hA0 hf hs hk
    have eg : sc_go n (fu + 1) s tk = st_sum (fun c => if tk.testBit c = true then 0 else sc_go n fu (pupd s k c) (tk ||| 2 ^ c)) n := by
      show st_sum (fun c => if tk.testBit c = true then 0 else sc_go n fu (pupd s (n - (fu + 1)) c) (tk ||| 2 ^ c)) n = _
      rw [show n - (fu + 1) = k by omega]
    have en : sc_n n (fu + 1) tk = st_sum (fun c => if tk.testBit c = true then 0 else sc_n n fu (tk ||| 2 ^ c)) n := rfl
    rw [eg] at hk
    rw [en]
    generalize hG : (fun c => if tk.testBit c = true then 0 else sc_go n fu (pupd s k c) (tk ||| 2 ^ c)) = G at hk
    generalize hN : (fun c => if tk.testBit c = true then 0 else sc_n n fu (tk ||| 2 ^ c)) = N
    have eG : ∀ c, G c = if tk.testBit c = true then 0 else sc_go n fu (pupd s k c) (tk ||| 2 ^ c) := fun c => by rw [← hG]
    have eN : ∀ c, N c = if tk.testBit c = true then 0 else sc_n n fu (tk ||| 2 ^ c) := fun c => by rw [← hN]
    refine nd_enter hg (by decide) rfl (Nat.le_of_ble_eq_true rfl) (fun X hC => ?_)
    refine nd_iload_n hC dX1_stacksFrom_0 rfl ?_
    refine nd_aload_n hC dX1_stacksFrom_1 rfl rfl ?_
    refine nd_alen hC rfl hA dX1_stacksFrom_2 ?_
    first | with_reducible refine nd_icmp_neN hC (tgt := 19) (by omega) (by omega) dX1_stacksFrom_3 (by decide) (fun hq => ?_) (fun hq => ?_) | refine nd_icmp_ne hC (tgt := 19) dX1_stacksFrom_3 (by decide) (fun hq => ?_) (fun hq => ?_)
    · skip
      refine nd_iconst hC (v := nI 0) (by rfl) dX1_stacksFrom_19 ?_
      refine nd_istore hC dX1_stacksFrom_20 (Nat.le_of_ble_eq_true rfl) ?_
      refine nd_iconst hC (v := nI 0) (by rfl) dX1_stacksFrom_22 ?_
      refine nd_istore hC dX1_stacksFrom_23 (Nat.le_of_ble_eq_true rfl) ?_
      have LP : ∀ c, c ≤ n → ∀ (h1 : nd_H) (f1 : Nat → Int32), h.length ≤ h1.length → (∀ a, a < h.length → a ≠ A → h1[a]? = h[a]?) → h1[A]? = some (.inl (0, n, .inl f1)) → (∀ i, i < k → f1 i = f i) → nd_W g mX1_stacksFrom d (st_sum N n) (6 * st_sum N n) K X 25 [some (.ref 0), some (.ref A), some (.int (nI k)), some (.int (nI tk)), some (.int (nI (st_sum G c))), some (.int (nI c))] [] h1 (st_sum N c) (6 * st_sum N c) := by
        refine nd_for _ _ ?_ ?_
        · intro h1 f1 l1 o1 a1 q1
          refine nd_iload hC dX1_stacksFrom_25 rfl ?_
          refine nd_aload_n hC dX1_stacksFrom_27 rfl rfl ?_
          refine nd_alen hC rfl a1 dX1_stacksFrom_28 ?_
          first | with_reducible refine nd_icmp_geN hC (tgt := 74) (by omega) (by omega) dX1_stacksFrom_29 (by decide) (fun hq2 => ?_) (fun hq2 => ?_) | refine nd_icmp_ge hC (tgt := 74) dX1_stacksFrom_29 (by decide) (fun hq2 => ?_) (fun hq2 => ?_)
          · refine nd_iload hC dX1_stacksFrom_74 rfl ?_
            refine nd_ireturn hC rfl (by first | rfl | exact nd_b_nar _) (by omega) (by omega) dX1_stacksFrom_76 ((hk h1 f1 l1 o1 a1 q1))
          · omega
        · intro c hcn ihc h1 f1 l1 o1 a1 q1
          have hle : st_sum N (c + 1) ≤ st_sum N n := st_sum_le (by omega)
          have hsu : st_sum N (c + 1) = st_sum N c + N c := rfl
          have hsg : st_sum G (c + 1) = st_sum G c + G c := rfl
          refine nd_iload hC dX1_stacksFrom_25 rfl ?_
          refine nd_aload_n hC dX1_stacksFrom_27 rfl rfl ?_
          refine nd_alen hC rfl a1 dX1_stacksFrom_28 ?_
          first | with_reducible refine nd_icmp_geN hC (tgt := 74) (by omega) (by omega) dX1_stacksFrom_29 (by decide) (fun hq2 => ?_) (fun hq2 => ?_) | refine nd_icmp_ge hC (tgt := 74) dX1_stacksFrom_29 (by decide) (fun hq2 => ?_) (fun hq2 => ?_)
          · omega
          refine nd_iload_n hC dX1_stacksFrom_32 rfl ?_
          refine nd_iload hC dX1_stacksFrom_33 rfl ?_
          refine nd_callS (mm2 := mX1_has) (As := [_, _]) (mc2 := 0) (ms2 := 0) (d2 := d - 1) hC rfl lkX1_438 lmX1_has (Nat.le_of_ble_eq_true rfl) (by omega) rfl (by exact Nat.le_of_ble_eq_true rfl) (by omega) (by omega) dX1_stacksFrom_35 rfl ((ci_has hg ht (by omega) ?_))
          cases eb : tk.testBit c with
          | true =>
            have e1 : N c = 0 := by rw [eN, if_pos eb]
            have e2 : G c = 0 := by rw [eG, if_pos eb]
            refine nd_if_eqB hC (tgt := 44) dX1_stacksFrom_38 (by decide) (fun hq => absurd hq (by decide)) (fun hq => ?_)
            refine nd_goto hC (tgt := 68) dX1_stacksFrom_41 (by decide) ?_
            first | with_reducible refine nd_iincN hC dX1_stacksFrom_68 rfl (Nat.le_of_ble_eq_true rfl) ?_ | refine nd_iinc hC dX1_stacksFrom_68 rfl rfl (Nat.le_of_ble_eq_true rfl) ?_
            refine nd_goto hC (tgt := 25) dX1_stacksFrom_71 (by decide) ?_
            have R := ihc h1 f1 l1 o1 a1 q1
            rw [hsg, e2, hsu, e1, Nat.add_zero, Nat.add_zero] at R
            exact R
          | false =>
            have e1 : N c = sc_n n fu (tk ||| 2 ^ c) := by rw [eN, if_neg (by rw [eb]; decide)]
            have e2 : G c = sc_go n fu (pupd s k c) (tk ||| 2 ^ c) := by rw [eG, if_neg (by rw [eb]; decide)]
            refine nd_if_eqB hC (tgt := 44) dX1_stacksFrom_38 (by decide) (fun hq => ?_) (fun hq => absurd hq (by decide))
            refine nd_aload_n hC dX1_stacksFrom_44 rfl rfl ?_
            refine nd_iload_n hC dX1_stacksFrom_45 rfl ?_
            refine nd_iload hC dX1_stacksFrom_46 rfl ?_
            refine nd_iastoreN hC a1 (by omega) (by omega) dX1_stacksFrom_48 ?_
            have a2 : (h1.set A (.inl (0, n, .inl (upd f1 k (nI c)))))[A]? = some (.inl (0, n, .inl (upd f1 k (nI c)))) := List.getElem?_set_self (nd_get_lt a1)
            obtain ⟨fs0, hx0⟩ := h0 _ (List.getElem?_eq_getElem hl)
            have z0 : (h1.set A (.inl (0, n, .inl (upd f1 k (nI c)))))[0]? = some (.inr (nX1, fs0)) := by
              rw [List.getElem?_set_ne hA0, o1 0 hl (Ne.symm hA0), List.getElem?_eq_getElem hl, hx0]
            refine nd_iload hC dX1_stacksFrom_49 rfl ?_
            refine nd_aload_n hC dX1_stacksFrom_51 rfl rfl ?_
            refine nd_aload_n hC dX1_stacksFrom_52 rfl rfl ?_
            refine nd_iload_n hC dX1_stacksFrom_53 rfl ?_
            refine nd_iconst hC (v := nI 1) (by rfl) dX1_stacksFrom_54 ?_
            first | with_reducible refine nd_iaddN hC dX1_stacksFrom_55 ?_ | refine nd_iadd hC dX1_stacksFrom_55 ?_
            refine nd_iload_n hC dX1_stacksFrom_56 rfl ?_
            refine nd_iconst hC (v := nI 1) (by rfl) dX1_stacksFrom_57 ?_
            refine nd_iload hC dX1_stacksFrom_58 rfl ?_
            refine nd_ishl hC dX1_stacksFrom_60 ?_
            rw [bt_shl (show c < 6 by omega)]
            refine nd_ior hC dX1_stacksFrom_61 ?_
            rw [nx_or]
            refine nd_callV (mm2 := mX1_stacksFrom) (As := [_, _, _]) (mc2 := sc_n n fu (tk ||| 2 ^ c)) (ms2 := 6 * sc_n n fu (tk ||| 2 ^ c)) (d2 := d - 1) hC rfl lkX1_458 ⟨rfl, lmX1_stacksFrom⟩ z0 rfl (Nat.le_of_ble_eq_true rfl) (by omega) rfl (by exact Nat.le_of_ble_eq_true rfl) (by omega) (by omega) dX1_stacksFrom_62 rfl ?_
            refine ih (k + 1) (by omega) (d - 1) _ _ (pupd s k c) (tk ||| 2 ^ c) (upd f1 k (nI c)) (by omega) (bt_or_lt ht (by omega)) (fun x hx => ⟨fs0, by rw [z0] at hx; exact (Option.some.inj hx).symm⟩) (by rw [List.length_set]; omega) a2 hA0 (fun i hi => ?_) (fun i hi => ?_) (fun h2 f2 l2 o2 a3 q2 => ?_)
            · unfold pupd
              by_cases z : i = k
              · subst z; rw [upd_s, if_pos rfl]
              · rw [upd_n z, if_neg z, q1 i (by omega)]; exact hf i (by omega)
            · unfold pupd
              by_cases z : i = k
              · rw [if_pos z]; exact hcn
              · rw [if_neg z]; exact hs i (by omega)
            · rw [List.length_set] at l2 o2
              show nd_W _ _ _ _ _ _ _ _ _ [.int (nI (sc_go n fu (pupd s k c) (tk ||| 2 ^ c))), .int (nI (st_sum G c))] _ _ _
              first | with_reducible refine nd_iaddN hC dX1_stacksFrom_65 ?_ | refine nd_iadd hC dX1_stacksFrom_65 ?_
              refine nd_istore hC dX1_stacksFrom_66 (Nat.le_of_ble_eq_true rfl) ?_
              first | with_reducible refine nd_iincN hC dX1_stacksFrom_68 rfl (Nat.le_of_ble_eq_true rfl) ?_ | refine nd_iinc hC dX1_stacksFrom_68 rfl rfl (Nat.le_of_ble_eq_true rfl) ?_
              refine nd_goto hC (tgt := 25) dX1_stacksFrom_71 (by decide) ?_
              have R := ihc h2 f2 (by omega) (fun a ha haA => (o2 a (by omega) haA).trans ((List.getElem?_set_ne (Ne.symm haA)).trans (o1 a ha haA))) a3 (fun i hi => (q2 i (by omega)).trans ((upd_n (by omega)).trans (q1 i hi)))
              rw [hsg, e2, hsu, e1] at R
              exact nd_widen (by omega) (by omega) R
      exact LP 0 (Nat.zero_le _) h f (Nat.le_refl _) (fun _ _ _ => rfl) hA (fun _ _ => rfl)
    · omega
end CP87

