set_option maxRecDepth 100000
theorem i_dbl (x : Int32) : x <<< (nI 1 &&& 31) = x + x := by
  apply Int32.toBitVec_inj.mp
  rw [Int32.toBitVec_shiftLeft, Int32.toBitVec_add]
  rw [show ((nI 1 &&& 31 : Int32).toBitVec.smod 32) = 1#32 by decide]
  apply BitVec.eq_of_toNat_eq
  rw [BitVec.toNat_add, BitVec.shiftLeft_eq', BitVec.toNat_shiftLeft, Nat.shiftLeft_eq]
  show x.toBitVec.toNat * 2 ^ 1 % 2 ^ 32 = _
  rw [Nat.pow_one, Nat.mul_two]
theorem i_half {n : Nat} (h : n < 2 ^ 31) : ((nI n).toUInt32 >>> ((nI 1).toUInt32 &&& Int32.toUInt32 31)).toInt32 = nI (n / 2) := by
  apply Int32.toBitVec_inj.mp
  apply BitVec.eq_of_toNat_eq
  show ((nI n).toUInt32 >>> ((nI 1).toUInt32 &&& Int32.toUInt32 31)).toNat = (nI (n / 2)).toBitVec.toNat
  rw [UInt32.toNat_shiftRight]
  rw [show ((nI 1).toUInt32 &&& Int32.toUInt32 31).toNat % 32 = 1 by decide, Nat.shiftRight_eq_div_pow]
  have e1 : (nI n).toUInt32.toNat = n := by
    show (BitVec.ofNat 32 n).toNat = n
    rw [BitVec.toNat_ofNat]
    exact Nat.mod_eq_of_lt (by omega)
  have e2 : (nI (n / 2)).toBitVec.toNat = n / 2 := by
    show (BitVec.ofNat 32 (n / 2)).toNat = n / 2
    rw [BitVec.toNat_ofNat]
    exact Nat.mod_eq_of_lt (by omega)
  rw [e1, e2, Nat.pow_one]
theorem i_dbl2 (p : Nat) : nI p <<< (nI 1 &&& 31) = nI (2 * p) := by
  rw [i_dbl]
  show Int32.ofNat p + Int32.ofNat p = Int32.ofNat (2 * p)
  rw [← Int32.ofNat_add, Nat.two_mul]
/-- c hangs below i (rows from lo on) -/
def hp_c (lo i c : Nat) : Prop := lo ≤ i ∧ (c = 2 * i - lo + 1 ∨ c = 2 * i - lo + 2)
/-- a heap from q on -/
def hp_h (lo hi q : Nat) (f : Nat → Int64) : Prop := ∀ i c, q ≤ i → hp_c lo i c → c < hi → (f c).toInt ≤ (f i).toInt
section SO93
variable {g : nd_G} {d : Nat} {K : nd_K} {h : nd_H} {A n : Nat} {f : Nat → Int64}
theorem so_push (hg : nd_OK g) {lo hi q : Nat} {v : Int64} (hlt : A < h.length) (hn : n ≤ 100000) (h1 : lo ≤ q) (h2 : q < hi) (h3 : hi ≤ n) (hh : hp_h lo hi (q + 1) f) (hk : ∀ f2, so_p lo hi (vp_updL f q v) f2 → hp_h lo hi q f2 → K (.inl none) (h.set A (.inl (1, n, .inr (.inl f2))))) : nd_M g mJ25_pushDown d 0 0 [.ref A, .int (nI q), .long v, .int (nI lo), .int (nI hi)] (h.set A (.inl (1, n, .inr (.inl f)))) K := by
  refine nd_enter hg (by decide) rfl (Nat.le_of_ble_eq_true rfl) (fun X hC => ?_)
  have J : ∀ p f3 lv6, q ≤ p → p < hi → so_p lo hi (vp_updL f q v) (vp_updL f3 p v) → hp_h lo hi q (vp_updL f3 p v) → nd_W g mJ25_pushDown d 0 0 K X 68 [some (.ref A), some (.int (nI p)), some (.long v), none, some (.int (nI lo)), some (.int (nI hi)), lv6] [] (h.set A (.inl (1, n, .inr (.inl f3)))) 0 0 := by
    intro p f3 lv6 a1 a2 a3 a4
    refine nd_aload_n hC dJ25_pushDown_68 rfl rfl ?_
    refine nd_iload_n hC dJ25_pushDown_69 rfl ?_
    refine nd_lload_n hC dJ25_pushDown_70 rfl ?_
    refine so_ast hC hlt hn (by omega) dJ25_pushDown_71 ?_
    refine nd_return hC rfl (by omega) (by omega) dJ25_pushDown_72 ((hk _ a3 a4))
  have L1 : ∀ m p f3 lv6, hi - p ≤ m → q ≤ p → p < hi → so_p lo hi (vp_updL f q v) (vp_updL f3 p v) → (∀ i c, q ≤ i → hp_c lo i c → c < hi → i ≠ p → c ≠ p → (f3 c).toInt ≤ (f3 i).toInt) → (∀ i, q ≤ i → hp_c lo i p → v.toInt ≤ (f3 i).toInt ∧ ∀ c, hp_c lo p c → c < hi → (f3 c).toInt ≤ (f3 i).toInt) → nd_W g mJ25_pushDown d 0 0 K X 0 [some (.ref A), some (.int (nI p)), some (.long v), none, some (.int (nI lo)), some (.int (nI hi)), lv6] [] (h.set A (.inl (1, n, .inr (.inl f3)))) 0 0 := by
    intro m
    induction m with
    | zero => intro p f3 lv6 hm a1 a2; omega
    | succ m ih =>
      intro p f3 lv6 hm a1 a2 hp hA hB
      have EX : (∀ c, hp_c lo p c → c < hi → (f3 c).toInt ≤ v.toInt) → hp_h lo hi q (vp_updL f3 p v) := by
        intro hc i c b1 b2 b3
        by_cases e1 : i = p
        · subst e1
          have hne : c ≠ i := by unfold hp_c at b2; omega
          rw [uL_s, uL_n hne]
          exact hc c b2 b3
        · rw [uL_n e1]
          by_cases e2 : c = p
          · subst e2; rw [uL_s]; exact (hB i b1 b2).1
          · rw [uL_n e2]; exact hA i c b1 b2 b3 e1 e2
      refine nd_iload_n hC dJ25_pushDown_0 rfl ?_
      refine nd_iconst hC (v := nI 1) (by rfl) dJ25_pushDown_1 ?_
      refine nd_ishl hC dJ25_pushDown_2 ?_
      rw [i_dbl2]
      refine nd_drop 6 ?_
      refine nd_iload hC dJ25_pushDown_3 rfl ?_
      first | with_reducible refine nd_isubN hC (by omega) dJ25_pushDown_5 ?_ | refine nd_isub hC dJ25_pushDown_5 ?_
      refine nd_iconst hC (v := nI 2) (by rfl) dJ25_pushDown_6 ?_
      first | with_reducible refine nd_iaddN hC dJ25_pushDown_7 ?_ | refine nd_iadd hC dJ25_pushDown_7 ?_
      refine nd_istore hC dJ25_pushDown_8 (Nat.le_of_ble_eq_true rfl) ?_
      refine nd_iload hC dJ25_pushDown_10 rfl ?_
      refine nd_iload hC dJ25_pushDown_12 rfl ?_
      first | with_reducible refine nd_icmp_leN hC (tgt := 20) (by omega) (by omega) dJ25_pushDown_14 (by decide) (fun hq => ?_) (fun hq => ?_) | refine nd_icmp_le hC (tgt := 20) dJ25_pushDown_14 (by decide) (fun hq => ?_) (fun hq => ?_)
      · have ST : ∀ k, hp_c lo p k → k < hi → (∀ c, hp_c lo p c → c < hi → (f3 c).toInt ≤ (f3 k).toInt) → nd_W g mJ25_pushDown d 0 0 K X 44 [some (.ref A), some (.int (nI p)), some (.long v), none, some (.int (nI lo)), some (.int (nI hi)), some (.int (nI k))] [] (h.set A (.inl (1, n, .inr (.inl f3)))) 0 0 := by
          intro k b1 b2 b3
          have hpk : p < k := by unfold hp_c at b1; omega
          refine nd_aload_n hC dJ25_pushDown_44 rfl rfl ?_
          refine nd_iload hC dJ25_pushDown_45 rfl ?_
          refine nd_laloadN hC (List.getElem?_set_self hlt) (by omega) (by omega) dJ25_pushDown_47 ?_
          refine nd_lload_n hC dJ25_pushDown_48 rfl ?_
          refine nd_lcmp_gt hC (tgt := 56) dJ25_pushDown_49 dJ25_pushDown_50 (by decide) (fun hq2 => ?_) (fun hq2 => ?_)
          · rw [Int64.lt_iff_toInt_lt] at hq2
            refine nd_aload_n hC dJ25_pushDown_56 rfl rfl ?_
            refine nd_iload_n hC dJ25_pushDown_57 rfl ?_
            refine nd_aload_n hC dJ25_pushDown_58 rfl rfl ?_
            refine nd_iload hC dJ25_pushDown_59 rfl ?_
            refine nd_dup hC (by rfl) dJ25_pushDown_61 ?_
            refine nd_istore_n hC dJ25_pushDown_62 (Nat.le_of_ble_eq_true rfl) ?_
            refine nd_laloadN hC (List.getElem?_set_self hlt) (by omega) (by omega) dJ25_pushDown_63 ?_
            refine so_ast hC hlt hn (by omega) dJ25_pushDown_64 ?_
            refine nd_goto hC (tgt := 0) dJ25_pushDown_65 (by decide) ?_
            refine ih k _ _ (by omega) (by omega) b2 (hp.trans (so_p.swap (i := p) (j := k) (by omega) a2 (by omega) b2 ?_ ?_ ?_)) ?_ ?_
            · rw [uL_n (by omega), uL_s, uL_n (by omega)]
            · rw [uL_s, uL_s]
            · intro x z1 z2; rw [uL_n z2, uL_n z1, uL_n z1]
            · intro i c c1 c2 c3 z1 z2
              by_cases e1 : i = p
              · subst e1
                have hne : c ≠ i := by unfold hp_c at c2; omega
                rw [uL_s, uL_n hne]
                exact b3 c c2 c3
              · rw [uL_n e1]
                by_cases e2 : c = p
                · subst e2; rw [uL_s]; exact (hB i c1 c2).2 k b1 b2
                · rw [uL_n e2]; exact hA i c c1 c2 c3 e1 e2
            · intro i c1 c2
              have ei : i = p := by unfold hp_c at b1 c2; omega
              subst ei
              rw [uL_s]
              refine ⟨by omega, fun c d1 d2 => ?_⟩
              have hne : c ≠ i := by unfold hp_c at d1; omega
              rw [uL_n hne]
              exact hA k c (by omega) d1 d2 (by omega) (by unfold hp_c at d1; omega)
          · rw [Int64.lt_iff_toInt_lt] at hq2
            refine nd_goto hC (tgt := 68) dJ25_pushDown_53 (by decide) ?_
            exact J p f3 _ a1 a2 hp (EX (fun c c1 c2 => by have := b3 c c1 c2; omega))
        refine nd_iload hC dJ25_pushDown_20 rfl ?_
        refine nd_iload hC dJ25_pushDown_22 rfl ?_
        first | with_reducible refine nd_icmp_eqN hC (tgt := 41) (by omega) (by omega) dJ25_pushDown_24 (by decide) (fun hq3 => ?_) (fun hq3 => ?_) | refine nd_icmp_eq hC (tgt := 41) dJ25_pushDown_24 (by decide) (fun hq3 => ?_) (fun hq3 => ?_)
        · first | with_reducible refine nd_iincN hC dJ25_pushDown_41 rfl (Nat.le_of_ble_eq_true rfl) ?_ | refine nd_iinc hC dJ25_pushDown_41 rfl rfl (Nat.le_of_ble_eq_true rfl) ?_
          rw [i_dec, i_pred (by omega)]
          exact ST (2 * p - lo + 1) ⟨by omega, Or.inl rfl⟩ (by omega) (fun c c1 c2 => by
            have e : c = 2 * p - lo + 1 := by unfold hp_c at c1; omega
            rw [e]; exact Int.le_refl _)
        · refine nd_aload_n hC dJ25_pushDown_27 rfl rfl ?_
          refine nd_iload hC dJ25_pushDown_28 rfl ?_
          refine nd_laloadN hC (List.getElem?_set_self hlt) (by omega) (by omega) dJ25_pushDown_30 ?_
          refine nd_aload_n hC dJ25_pushDown_31 rfl rfl ?_
          refine nd_iload hC dJ25_pushDown_32 rfl ?_
          refine nd_iconst hC (v := nI 1) (by rfl) dJ25_pushDown_34 ?_
          first | with_reducible refine nd_isubN hC (by omega) dJ25_pushDown_35 ?_ | refine nd_isub hC dJ25_pushDown_35 ?_
          refine nd_laloadN hC (List.getElem?_set_self hlt) (by omega) (by omega) dJ25_pushDown_36 ?_
          rw [show 2 * p - lo + 2 - 1 = 2 * p - lo + 1 from rfl]
          refine nd_lcmp_ge hC (tgt := 44) dJ25_pushDown_37 dJ25_pushDown_38 (by decide) (fun hq4 => ?_) (fun hq4 => ?_)
          · rw [Int64.le_iff_toInt_le] at hq4
            exact ST (2 * p - lo + 2) ⟨by omega, Or.inr rfl⟩ (by omega) (fun c c1 c2 => by
              rcases c1.2 with e | e
              · rw [e]; exact hq4
              · rw [e]; exact Int.le_refl _)
          · rw [Int64.le_iff_toInt_le] at hq4
            first | with_reducible refine nd_iincN hC dJ25_pushDown_41 rfl (Nat.le_of_ble_eq_true rfl) ?_ | refine nd_iinc hC dJ25_pushDown_41 rfl rfl (Nat.le_of_ble_eq_true rfl) ?_
            rw [i_dec, i_pred (by omega)]
            exact ST (2 * p - lo + 1) ⟨by omega, Or.inl rfl⟩ (by omega) (fun c c1 c2 => by
              rcases c1.2 with e | e
              · rw [e]; exact Int.le_refl _
              · rw [e]; omega)
      · refine nd_goto hC (tgt := 68) dJ25_pushDown_17 (by decide) ?_
        exact J p f3 _ a1 a2 hp (EX (fun c c1 c2 => by unfold hp_c at c1; omega))
  refine L1 hi q f _ (by omega) (Nat.le_refl _) h2 so_p.rfl ?_ ?_
  · intro i c a1 a2 a3 a4 a5
    exact hh i c (by omega) a2 a3
  · intro i a1 a2
    unfold hp_c at a2; omega
end SO93

