set_option maxRecDepth 100000
/-! ===== a law's numbers are small ===== -/
def lz_in (v : Int32) : Prop := -1000000 ≤ v.toInt ∧ v.toInt ≤ 1000000
theorem lz_in_nat {k : Nat} (h : k ≤ 1000000) : lz_in (nI k) := by
  unfold lz_in
  rw [nI_toInt (by omega)]
  omega
theorem lz_in_bd (v : Int64) : lz_in (lw_bd v) := by
  unfold lz_in lw_bd
  have h1 : (lN 1000000).toInt = 1000000 := by decide
  have h2 : (-1000000 : Int64).toInt = -1000000 := by decide
  have key : ∀ w : Int64, -1000000 ≤ w.toInt → w.toInt ≤ 1000000 → -1000000 ≤ w.toInt32.toInt ∧ w.toInt32.toInt ≤ 1000000 := by
    intro w a b
    have e : w.toInt32.toInt = w.toInt := by
      rw [Int64.toInt_toInt32]
      exact Int.bmod_eq_of_le (by omega) (by omega)
    omega
  by_cases c1 : v < lN 1000000
  · rw [if_pos c1]
    rw [Int64.lt_iff_toInt_lt, h1] at c1
    by_cases c2 : v < -1000000
    · rw [if_pos c2]; exact key _ (by omega) (by omega)
    · rw [if_neg c2]
      rw [Int64.lt_iff_toInt_lt, h2] at c2
      exact key _ (by omega) (by omega)
  · rw [if_neg c1, if_neg (by rw [Int64.lt_iff_toInt_lt]; omega)]
    exact key _ (by omega) (by omega)
theorem lz_in_b (c : Bool) : lz_in (nd_b c) := by cases c <;> exact lz_in_nat (by omega)
theorem l_sum_in {f : Nat → Int32} {M : Nat} : ∀ n, (∀ i, i < n → ∃ j, j ≤ M ∧ f i = nI j) → ∃ J, J ≤ M * n ∧ l_sum f n = nI J := by
  intro n
  induction n with
  | zero => intro _; exact ⟨0, by omega, rfl⟩
  | succ n ih =>
    intro h
    obtain ⟨J, h1, h2⟩ := ih (fun i hi => h i (by omega))
    obtain ⟨j, h3, h4⟩ := h n (by omega)
    refine ⟨J + j, ?_, ?_⟩
    · rw [Nat.mul_succ]; omega
    · show l_sum f n + f n = nI (J + j)
      rw [h2, h4, nI_add]
/-- out of a sum's tree -/
theorem su_in {o : Nat → Nat} {h : nd_H} {ask : Nat → Int32} (ha : ∀ k, k < 8 → lz_in (ask k)) : ∀ {f a : Nat} {s : List Nat}, su_at o h f a s → ∃ v, lz_in v ∧ ∀ st, lw_ev ask s st = v :: st := by
  intro f
  induction f with
  | zero => intro a s hs; exact hs.elim
  | succ f ih =>
    intro a s hs
    obtain ⟨-, hs⟩ := hs
    rcases hs with ⟨n, h1, -, h3⟩ | ⟨k, h1, -, h3⟩ | ⟨ci, c, b1, b2, s1, s2, h1, -, h3, h4, h5⟩
    · subst h3
      refine ⟨nI n, lz_in_nat (by omega), fun st => ?_⟩
      show lw_st ask st (1000 + n) = _
      unfold lw_st
      rw [if_pos (by omega), show 1000 + n - 1000 = n by omega]
    · subst h3
      refine ⟨ask k, ha k h1, fun st => ?_⟩
      show lw_st ask st (100 + k) = _
      unfold lw_st
      rw [if_neg (by omega), if_pos (by omega), show 100 + k - 100 = k by omega]
    · obtain ⟨v1, -, e1⟩ := ih h3
      obtain ⟨v2, -, e2⟩ := ih h4
      subst h5
      have hc : c = 10 ∨ c = 11 ∨ c = 12 := by omega
      refine ⟨lw_dn c v1.toInt64 v2.toInt64, ?_, fun st => ?_⟩
      · unfold lw_dn
        rcases hc with z | z | z
        · rw [if_pos z]; exact lz_in_bd _
        · rw [if_neg (by omega), if_pos z]; exact lz_in_bd _
        · rw [if_neg (by omega), if_neg (by omega), if_pos z]; exact lz_in_bd _
      · unfold lw_ev at e1 e2 ⊢
        rw [List.foldl_append, List.foldl_append, e1, e2]
        show lw_st ask (v2 :: v1 :: st) c = _
        unfold lw_st
        rw [if_neg (by omega), if_neg (by omega), if_neg (by omega)]
theorem cn_in {o : Nat → Nat} {h : nd_H} {v : Value} {s : List Nat} {ask : Nat → Int32} (hs : cn_su o h v s) (ha : ∀ k, k < 8 → lz_in (ask k)) : lz_in (lw_val ask s) := by
  unfold lw_val
  rcases hs with ⟨e, -⟩ | ⟨e, a, f, -, -, h1⟩
  · rw [if_pos e]; exact lz_in_nat (by omega)
  · rw [if_neg e]
    obtain ⟨w, h2, h3⟩ := su_in ha h1
    rw [h3 []]
    exact h2
theorem ask_in {n : Nat} {s : sv} {l : List (List Nat)} {folds : Nat} (hv : sv_ok n s) (hok : lk_ok n l) (hn : n ≤ 6) (hf : folds ≤ 10) (k : Nat) : lz_in (lw_ask (sv_fr s) (sv_bk s) n l folds k) := by
  have hm := sv_mk hv
  have hw := lk_width hok
  have mk : ∀ x, x / 2 < n → ∃ j, j ≤ 100 ∧ lk_mk (sv_fr s) (sv_bk s) x = nI j := by
    intro x hx
    obtain ⟨⟨a, a1, a2⟩, ⟨b, b1, b2⟩⟩ := hm (x / 2) hx
    unfold lk_mk
    split
    · exact ⟨a, by omega, a2⟩
    · exact ⟨b, by omega, b2⟩
  obtain ⟨T, t1, t2⟩ := l_sum_in (f := fun t => lk_mk (sv_fr s) (sv_bk s) (lk_top (l.getD t []))) (M := 100) l.length (fun i hi => mk _ (lk_top_half hok hn hi))
  obtain ⟨U, u1, u2⟩ := l_sum_in (f := fun t => lk_mk (sv_fr s) (sv_bk s) (lk_bot (l.getD t []))) (M := 100) l.length (fun i hi => mk _ (lk_bot_half hok hn hi))
  obtain ⟨L, l1, l2⟩ := l_sum_in (f := fun c => sv_fr s c + sv_bk s c) (M := 200) n (fun c hc => by
    obtain ⟨⟨a, a1, a2⟩, ⟨b, b1, b2⟩⟩ := hm c hc
    exact ⟨a + b, by omega, by rw [a2, b2, nI_add]⟩)
  have e3 : lk_tops (sv_fr s) (sv_bk s) l = nI T := t2
  have e4 : lk_unders (sv_fr s) (sv_bk s) l = nI U := u2
  have e5 : lk_all (sv_fr s) (sv_bk s) n = nI L := l2
  unfold lw_ask
  split
  · exact lz_in_nat (by omega)
  · have := lk_hi_le hok l.length
    exact lz_in_nat (by omega)
  · exact lz_in_nat (by omega)
  · rw [e3]; exact lz_in_nat (by omega)
  · rw [e4]; exact lz_in_nat (by omega)
  · rw [e3, e4, e5]
    unfold lz_in
    rw [Int32.toInt_sub, Int32.toInt_sub, nI_toInt (by omega), nI_toInt (by omega), nI_toInt (by omega)]
    rw [Int.bmod_eq_of_le (n := (L : Int) - (T : Int)) (by omega) (by omega), Int.bmod_eq_of_le (by omega) (by omega)]
    omega
theorem ask2_in {n : Nat} {s : sv} {l : List (List Nat)} {folds gs w : Nat} (hv : sv_ok n s) (hok : lk_ok n l) (hn : n ≤ 6) (hf : folds ≤ 10) (hg : gs ≤ 10) (hw : w < 100) (k : Nat) : lz_in (lw_ask2 (sv_fr s) (sv_bk s) n l folds gs (nI w) k) := by
  unfold lw_ask2
  split
  · exact lz_in_nat (by omega)
  · split
    · exact lz_in_nat (by omega)
    · exact ask_in hv hok hn hf k
section BD
variable {o : Nat → Nat} {nap : Nat} {ds : List Nat} {gi : Nat → Value} {dss : Nat → List Nat} {S : sy_S} {h : nd_H}
theorem worth_in (hS : sy_ok S) (hK : cw_K o nap ds gi dss S h) {m : Nat} (hm : m ≤ 5) : ∀ x ∈ lv_all m (sy_l S), lz_in (sy_worth S x) := by
  intro x hx
  obtain ⟨fa, ba, ga, m9, ed9, wv, kv, hv9, -, -, -, -, -, h1, -⟩ := hK.2.2.1.1
  obtain ⟨h2, h3⟩ := lv_all_ok (sy_l_ok hS) x hx
  have h5 := sy_len5 hS
  exact cn_in h1 (fun k _ => ask_in hS.1.2.1 h2 hS.1.1.1 (by omega) k)
theorem likes_in (hS : sy_ok S) (hK : cw_K o nap ds gi dss S h) {l : List (List Nat)} {folds gs : Nat} (hok : lk_ok (sy_n S) l) (hf : folds ≤ 10) (hg : gs < (nk_w (sy_N S)).length) : lz_in (nk_likes (sy_N S) (sv_fr (sy_c S)) (sv_bk (sy_c S)) l folds gs) := by
  obtain ⟨fa, ba, ga, m9, ed9, wv, kv, hv9, -, -, -, -, -, -, -, h1⟩ := hK.2.2.1.1
  have h4 := hS.1.1.2.2.1
  exact cn_in h1 (fun k _ => ask2_in hS.1.2.1 hok hS.1.1.1 hf (by have : (nk_w (sy_N S)).length ≤ 4 := h4; omega) (hS.1.1.2.2.2.1 gs hg) k)
/-- the class's and the reference's start for the least make no difference -/
theorem least_eq (hS : sy_ok S) (hK : cw_K o nap ds gi dss S h) {l : List (List Nat)} {folds : Nat} (hok : lk_ok (sy_n S) l) (hf : folds ≤ 10) : ∀ k, k ≤ (nk_w (sy_N S)).length → (k = 0 ∨ nk_least (sy_N S) (sv_fr (sy_c S)) (sv_bk (sy_c S)) l folds (nI 1000000) k = nk_least (sy_N S) (sv_fr (sy_c S)) (sv_bk (sy_c S)) l folds (nI 536870912) k) ∧ lz_in (nk_least (sy_N S) (sv_fr (sy_c S)) (sv_bk (sy_c S)) l folds (nI 1000000) k) := by
  intro k
  induction k with
  | zero => intro _; exact ⟨Or.inl rfl, lz_in_nat (by omega)⟩
  | succ k ih =>
    intro hk
    obtain ⟨h1, h2⟩ := ih (by omega)
    have h3 := likes_in hS hK hok hf (gs := k) (by omega)
    show (_ ∨ (if nk_likes (sy_N S) (sv_fr (sy_c S)) (sv_bk (sy_c S)) l folds k < nk_least (sy_N S) (sv_fr (sy_c S)) (sv_bk (sy_c S)) l folds (nI 1000000) k then _ else _) = (if nk_likes (sy_N S) (sv_fr (sy_c S)) (sv_bk (sy_c S)) l folds k < nk_least (sy_N S) (sv_fr (sy_c S)) (sv_bk (sy_c S)) l folds (nI 536870912) k then _ else _)) ∧ lz_in (if nk_likes (sy_N S) (sv_fr (sy_c S)) (sv_bk (sy_c S)) l folds k < nk_least (sy_N S) (sv_fr (sy_c S)) (sv_bk (sy_c S)) l folds (nI 1000000) k then _ else _)
    constructor
    · refine Or.inr ?_
      rcases h1 with z | z
      · subst z
        show (if _ < nI 1000000 then _ else nI 1000000) = (if _ < nI 536870912 then _ else nI 536870912)
        unfold lz_in at h3
        rw [if_pos (c := _ < nI 536870912) (by rw [Int32.lt_iff_toInt_lt, nI_toInt (by omega)]; omega)]
        by_cases c : nk_likes (sy_N S) (sv_fr (sy_c S)) (sv_bk (sy_c S)) l folds 0 < nI 1000000
        · rw [if_pos c]
        · rw [if_neg c]
          rw [Int32.lt_iff_toInt_lt, nI_toInt (by omega)] at c
          apply Int32.toInt_inj.mp
          rw [nI_toInt (by omega)]
          omega
      · rw [z]
    · split
      · exact h3
      · exact h2
theorem least_in (hS : sy_ok S) (hK : cw_K o nap ds gi dss S h) {m : Nat} (hm : m ≤ 5) : ∀ x ∈ lv_all m (sy_l S), -536870912 < (sy_least S x).toInt := by
  intro x hx
  obtain ⟨h2, h3⟩ := lv_all_ok (sy_l_ok hS) x hx
  have h5 := sy_len5 hS
  obtain ⟨q1, q2⟩ := least_eq hS hK h2 (folds := (sy_c S).1.length + x.1.length) (by omega) (nk_w (sy_N S)).length (Nat.le_refl _)
  show -536870912 < (nk_least _ _ _ _ _ (if (nk_w (sy_N S)).length = 0 then nI 0 else nI 536870912) _).toInt
  by_cases z : (nk_w (sy_N S)).length = 0
  · rw [if_pos z, z]
    show -536870912 < (nI 0).toInt
    decide
  · rw [if_neg z]
    rcases q1 with q | q
    · exact absurd q z
    · rw [← q]; unfold lz_in at q2; omega
theorem least_same (hS : sy_ok S) (hK : cw_K o nap ds gi dss S h) {l : List (List Nat)} {folds : Nat} (hok : lk_ok (sy_n S) l) (hf : folds ≤ 10) : nk_least (sy_N S) (sv_fr (sy_c S)) (sv_bk (sy_c S)) l folds (if (nk_w (sy_N S)).length = 0 then nI 0 else nI 1000000) (nk_w (sy_N S)).length = nk_least (sy_N S) (sv_fr (sy_c S)) (sv_bk (sy_c S)) l folds (if (nk_w (sy_N S)).length = 0 then nI 0 else nI 536870912) (nk_w (sy_N S)).length := by
  by_cases z : (nk_w (sy_N S)).length = 0
  · rw [if_pos z, if_pos z]
  · rw [if_neg z, if_neg z]
    exact ((least_eq hS hK hok hf _ (Nat.le_refl _)).1).resolve_left z
end BD

