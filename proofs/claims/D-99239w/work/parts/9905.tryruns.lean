set_option maxRecDepth 100000
/-! ===== tryMergeRuns ===== -/
theorem i_shr {n k : Nat} (hn : n < 2 ^ 31) (hk : k < 31) : nI n >>> (nI k &&& 31) = nI (n / 2 ^ k) := by
  have e1 : ∀ k, k < 31 → (nI k &&& 31) = nI k := by decide +kernel
  have e2 : ∀ k, k < 31 → ((nI k).toBitVec.smod 32).toNat = k := by decide +kernel
  rw [e1 k hk]
  apply Int32.toBitVec_inj.mp
  rw [Int32.toBitVec_shiftRight, BitVec.sshiftRight_eq', e2 k hk]
  have e3 : (nI n).toBitVec.toNat = n := by
    show (BitVec.ofNat 32 n).toNat = n
    rw [BitVec.toNat_ofNat]
    exact Nat.mod_eq_of_lt (by omega)
  have e4 : (nI n).toBitVec.msb = false := by
    rw [BitVec.msb_eq_decide, e3]
    exact decide_eq_false (by omega)
  rw [BitVec.sshiftRight_eq_of_msb_false e4]
  apply BitVec.eq_of_toNat_eq
  rw [BitVec.toNat_ushiftRight, e3, Nat.shiftRight_eq_div_pow]
  show n / 2 ^ k = (BitVec.ofNat 32 (n / 2 ^ k)).toNat
  rw [BitVec.toNat_ofNat]
  have := Nat.div_le_self n (2 ^ k)
  exact (Nat.mod_eq_of_lt (by omega)).symm
def so_d (lo hi : Nat) (f : Nat → Int64) : Prop := ∀ i j, lo ≤ i → i ≤ j → j < hi → (f j).toInt ≤ (f i).toInt
def so_c (lo hi : Nat) (f : Nat → Int64) : Prop := ∀ i j, lo ≤ i → i < hi → lo ≤ j → j < hi → f i = f j
theorem so_c.s {lo k : Nat} {f : Nat → Int64} (h : so_c lo k f) (hk : lo ≤ k) (he : lo < k → (f (k - 1)).toInt ≤ (f k).toInt) : so_s lo (k + 1) f := by
  intro i j a b c
  by_cases e : j = k
  · subst e
    by_cases e2 : i = j
    · subst e2; exact Int.le_refl _
    · rw [h i (j - 1) a (by omega) (by omega) (by omega)]; exact he (by omega)
  · rw [h i j a (by omega) (by omega) (by omega)]; exact Int.le_refl _
theorem so_c.d {lo k : Nat} {f : Nat → Int64} (h : so_c lo k f) (hk : lo ≤ k) (he : lo < k → (f k).toInt ≤ (f (k - 1)).toInt) : so_d lo (k + 1) f := by
  intro i j a b c
  by_cases e : j = k
  · subst e
    by_cases e2 : i = j
    · subst e2; exact Int.le_refl _
    · rw [h i (j - 1) a (by omega) (by omega) (by omega)]; exact he (by omega)
  · rw [h i j a (by omega) (by omega) (by omega)]; exact Int.le_refl _
theorem so_c.c {lo k : Nat} {f : Nat → Int64} {v : Int64} (h : so_c lo k f) (hk : lo ≤ k) (he : lo < k → f (k - 1) = v) (hv : f k = v) : so_c lo (k + 1) f := by
  have e : ∀ i, lo ≤ i → i < k + 1 → f i = v := by
    intro i a b
    by_cases e : i = k
    · subst e; exact hv
    · rw [h i (k - 1) a (by omega) (by omega) (by omega)]; exact he (by omega)
  intro i j a b c d
  rw [e i a b, e j c d]
theorem so_d.snoc {lo k : Nat} {f : Nat → Int64} (hs : so_d lo (k + 1) f) (h : (f (k + 1)).toInt ≤ (f k).toInt) : so_d lo (k + 2) f := by
  intro i j a b c
  by_cases e : j = k + 1
  · subst e
    by_cases e2 : i = k + 1
    · subst e2; exact Int.le_refl _
    · have := hs i k a (by omega) (by omega)
      omega
  · exact hs i j a b (by omega)
/-- the outer t places of lo..hi turned round -/
def so_rv (lo hi t : Nat) (f : Nat → Int64) : Nat → Int64 := fun x => if (lo ≤ x ∧ x < lo + t) ∨ (hi ≤ x + t ∧ x < hi) then f (lo + hi - 1 - x) else f x
theorem so_rv_0 {lo hi : Nat} {f : Nat → Int64} : so_rv lo hi 0 f = f := by
  funext x
  unfold so_rv
  rw [if_neg (by omega)]
theorem so_rv_s {lo hi t : Nat} {f : Nat → Int64} (h : lo + t + t + 1 < hi) : vp_updL (vp_updL (so_rv lo hi t f) (lo + t) (so_rv lo hi t f (hi - 1 - t))) (hi - 1 - t) (so_rv lo hi t f (lo + t)) = so_rv lo hi (t + 1) f := by
  have e1 : so_rv lo hi t f (hi - 1 - t) = f (hi - 1 - t) := by unfold so_rv; rw [if_neg (by omega)]
  have e2 : so_rv lo hi t f (lo + t) = f (lo + t) := by unfold so_rv; rw [if_neg (by omega)]
  rw [e1, e2]
  funext x
  by_cases z1 : x = hi - 1 - t
  · subst z1
    rw [uL_s]
    unfold so_rv
    rw [if_pos (by omega)]
    congr 1
    omega
  · rw [uL_n z1]
    by_cases z2 : x = lo + t
    · subst z2
      rw [uL_s]
      unfold so_rv
      rw [if_pos (by omega)]
      congr 1
      omega
    · rw [uL_n z2]
      unfold so_rv
      by_cases z3 : (lo ≤ x ∧ x < lo + t) ∨ (hi ≤ x + t ∧ x < hi)
      · rw [if_pos z3, if_pos (by omega)]
      · rw [if_neg z3, if_neg (by omega)]
/-- at the end all of it is turned round -/
theorem so_rv_end {lo hi t : Nat} {f : Nat → Int64} (hd : so_d lo hi f) (h : hi ≤ lo + t + t + 1 ∨ (lo + t + t + 1 < hi ∧ (f (lo + t)).toInt ≤ (f (hi - 1 - t)).toInt)) : so_s lo hi (so_rv lo hi t f) ∧ ∀ x, lo ≤ x → x < hi → (so_rv lo hi t f x) = f (lo + hi - 1 - x) := by
  have e : ∀ x, lo ≤ x → x < hi → (so_rv lo hi t f x) = f (lo + hi - 1 - x) := by
    intro x a b
    unfold so_rv
    by_cases z : (lo ≤ x ∧ x < lo + t) ∨ (hi ≤ x + t ∧ x < hi)
    · rw [if_pos z]
    · rw [if_neg z]
      rcases h with h | ⟨h1, h2⟩
      · congr 1
        omega
      · apply Int64.toInt_inj.mp
        have a1 := hd (lo + t) x (by omega) (by omega) b
        have a2 := hd x (hi - 1 - t) a (by omega) (by omega)
        have b1 := hd (lo + t) (lo + hi - 1 - x) (by omega) (by omega) (by omega)
        have b2 := hd (lo + hi - 1 - x) (hi - 1 - t) (by omega) (by omega) (by omega)
        omega
  refine ⟨fun i j a b c => ?_, e⟩
  rw [e i a (by omega), e j (by omega) c]
  exact hd _ _ (by omega) (by omega) (by omega)
theorem so_rv_p {lo hi t lo2 hi2 : Nat} {f : Nat → Int64} (h1 : lo2 ≤ lo) (h2 : hi ≤ hi2) (h3 : lo + t + t ≤ hi) : so_p lo2 hi2 f (so_rv lo hi t f) := by
  refine so_p.wide (lo := lo) (hi := hi) ⟨fun i h => ?_, fun i a b => ?_, fun j a b => ?_⟩ h1 h2
  · unfold so_rv; rw [if_neg (by omega)]
  · unfold so_rv
    by_cases z : (lo ≤ i ∧ i < lo + t) ∨ (hi ≤ i + t ∧ i < hi)
    · rw [if_pos z]; exact ⟨lo + hi - 1 - i, by omega, by omega, rfl⟩
    · rw [if_neg z]; exact ⟨i, a, b, rfl⟩
  · by_cases z : (lo ≤ j ∧ j < lo + t) ∨ (hi ≤ j + t ∧ j < hi)
    · refine ⟨lo + hi - 1 - j, by omega, by omega, ?_⟩
      unfold so_rv
      rw [if_pos (by omega)]
      congr 1
      omega
    · refine ⟨j, a, b, ?_⟩
      unfold so_rv
      rw [if_neg z]
/-- where the runs stand -/
def so_st (h : nd_H) (lo sz : Nat) (f2 : Nat → Int64) (hx : nd_H) (v : Value) (cnt last cs ss : Nat) : Prop :=
  (v = .null ∧ cnt = 1 ∧ last = lo ∧ cs = 0 ∧ ss = 0 ∧ hx = h) ∨
  (∃ (R rl : Nat) (rf : Nat → Int32) (r : Nat → Nat), v = .ref R ∧ so_e h hx cs ss ∧ h.length ≤ R ∧ hx[R]? = some (.inl (0, rl, .inl rf)) ∧ cnt < rl ∧ ((rl = 127 ∧ cs = 1 ∧ ss = 127) ∨ (rl = 254 ∧ cs = 2 ∧ ss = 381 ∧ 16128 ≤ sz)) ∧ 1 ≤ cnt ∧ (∀ i, i ≤ cnt → rf i = nI (r i)) ∧ (∀ i, i < cnt → r i < r (i + 1)) ∧ r 0 = lo ∧ r cnt = last ∧ ∀ i, i < cnt → so_s (r i) (r (i + 1)) f2)
theorem so_st.congr {h hx : nd_H} {lo sz cnt last cs ss : Nat} {f2 f3 : Nat → Int64} {v : Value} (H : so_st h lo sz f2 hx v cnt last cs ss) (e : ∀ x, x < last → f3 x = f2 x) : so_st h lo sz f3 hx v cnt last cs ss := by
  rcases H with H | ⟨R, rl, rf, r, a1, a2, a3, a4, a5, a6, a7, a8, a9, a10, a11, a12⟩
  · exact Or.inl H
  · refine Or.inr ⟨R, rl, rf, r, a1, a2, a3, a4, a5, a6, a7, a8, a9, a10, a11, fun i hi => (a12 i hi).congr (fun x b1 b2 => e x ?_)⟩
    have M := r_mono a9 (cnt - (i + 1)) (i + 1) (by omega)
    rw [show i + 1 + (cnt - (i + 1)) = cnt by omega] at M
    omega
theorem so_st.le {h hx : nd_H} {lo sz cnt last cs ss : Nat} {f2 : Nat → Int64} {v : Value} (H : so_st h lo sz f2 hx v cnt last cs ss) : so_e h hx cs ss ∧ 1 ≤ cnt ∧ cnt < 254 ∧ cs ≤ 2 ∧ ((ss ≤ 127) ∨ (ss ≤ 381 ∧ 16128 ≤ sz)) ∧ lo ≤ last ∧ nd_rf v = true := by
  rcases H with ⟨a1, a2, a3, a4, a5, a6⟩ | ⟨R, rl, rf, r, a1, a2, a3, a4, a5, a6, a7, a8, a9, a10, a11, a12⟩
  · subst a6; subst a4; subst a5
    exact ⟨so_e.rfl, by omega, by omega, by omega, by omega, by omega, by rw [a1]; rfl⟩
  · have M := r_mono a9 cnt 0 (by omega)
    rw [Nat.zero_add] at M
    exact ⟨a2, a7, by omega, by omega, by omega, by omega, by rw [a1]; rfl⟩
section SO9905
variable {g : nd_G} {d ms : Nat} {K : nd_K} {X : nd_X} {h hx : nd_H} {A n : Nat}
theorem so_copyOf {K : nd_K} (hg : nd_OK g) {R rl : Nat} {rf : Nat → Int32} (hR : h[R]? = some (.inl (0, rl, .inl rf))) (h1 : 1 ≤ rl) (h2 : rl ≤ 10000) (hk : K (.inl (some (.ref h.length))) (h ++ [.inl (0, 2 * rl, .inl (va_cpy rf (fun _ => 0) 0 0 rl))])) : nd_M g mJ16_copyOf_4 d 1 (2 * rl) [.ref R, .int (nI (2 * rl))] h K := by
  have hlt := nd_get_lt hR
  refine nd_enter hg (by decide) rfl (Nat.le_of_ble_eq_true rfl) (fun X hC => ?_)
  refine nd_iload_n hC dJ16_copyOf_4_0 rfl ?_
  refine nd_aload_n hC dJ16_copyOf_4_1 rfl rfl ?_
  refine nd_alen hC rfl hR dJ16_copyOf_4_2 ?_
  first | with_reducible refine nd_icmp_neN hC (tgt := 14) (by omega) (by omega) dJ16_copyOf_4_3 (by decide) (fun hq => ?_) (fun hq => ?_) | refine nd_icmp_ne hC (tgt := 14) dJ16_copyOf_4_3 (by decide) (fun hq => ?_) (fun hq => ?_)
  · refine nd_iload_n hC dJ16_copyOf_4_14 rfl ?_
    refine nd_newarray hC (atype := .int) (ty := 0) .int (.inl (fun _ => 0)) q322 rfl rfl (fun _ _ => rfl) (N := 2 * rl) rfl (nI_toInt (by omega)) (by show 2 * rl * 4 ≤ 536870912; omega) (by omega) (by omega) dJ16_copyOf_4_15 ?_
    have hR2 : (h ++ [(.inl (0, 2 * rl, .inl (fun _ => 0)) : nd_C)])[R]? = some (.inl (0, rl, .inl rf)) := (List.getElem?_append_left hlt).trans hR
    have hN : (h ++ [(.inl (0, 2 * rl, .inl (fun _ => 0)) : nd_C)])[h.length]? = some (.inl (0, 2 * rl, .inl (fun _ => 0))) := by simp
    refine nd_astore_n hC dJ16_copyOf_4_17 (Nat.le_of_ble_eq_true rfl) rfl ?_
    refine nd_aload_n hC dJ16_copyOf_4_18 rfl rfl ?_
    refine nd_iconst hC (v := nI 0) (by rfl) dJ16_copyOf_4_19 ?_
    refine nd_aload_n hC dJ16_copyOf_4_20 rfl rfl ?_
    refine nd_iconst hC (v := nI 0) (by rfl) dJ16_copyOf_4_21 ?_
    refine nd_aload_n hC dJ16_copyOf_4_22 rfl rfl ?_
    refine nd_alen hC rfl hR2 dJ16_copyOf_4_23 ?_
    refine nd_iload_n hC dJ16_copyOf_4_24 rfl ?_
    first | ((with_reducible refine nd_tst2 ?_); refine nd_mminN hC (by omega) (by omega) q744 (by omega) (by omega) (by exact Nat.le_of_ble_eq_true rfl) dJ16_copyOf_4_25 ?_) | refine nd_mmin hC q744 (by omega) (by omega) (by exact Nat.le_of_ble_eq_true rfl) dJ16_copyOf_4_25 ?_
    rw [show min rl (2 * rl) = rl by omega]
    refine nd_copyI hC q747 hR2 hN (by omega) (by omega) (by omega) (by omega) (by decide) dJ16_copyOf_4_28 ?_
    rw [List.set_append_right _ _ (Nat.le_refl _), Nat.sub_self]
    refine nd_aload_n hC dJ16_copyOf_4_31 rfl rfl ?_
    refine nd_areturn hC rfl (by first | exact Or.inl ⟨_, rfl⟩ | exact Or.inr ⟨_, rfl⟩) (by rfl) (by omega) (by omega) dJ16_copyOf_4_32 (hk)
  · omega
end SO9905

