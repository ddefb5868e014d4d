set_option maxRecDepth 100000
/-! ===== laws as trees of the class: a sum at a, f frames high, of steps s; a truth likewise (F: fuel) ===== -/
def su_at (o : Nat → Nat) (h : nd_H) : Nat → Nat → List Nat → Prop
  | 0, _, _ => False
  | f + 1, a, s => o a = 1 ∧ ((∃ n, n < 1000 ∧ h[a]? = some (.inr (nX10, [.int (nI n)])) ∧ s = [1000 + n]) ∨ (∃ k, k < 8 ∧ h[a]? = some (.inr (nX11, [.int (nI k)])) ∧ s = [100 + k]) ∨ ∃ ci c b1 b2 s1 s2, (ci = nX14 ∧ c = 10 ∨ ci = nX15 ∧ c = 11 ∨ ci = nX13 ∧ c = 12) ∧ h[a]? = some (.inr (ci, [.ref b1, .ref b2])) ∧ su_at o h f b1 s1 ∧ su_at o h f b2 s2 ∧ s = s1 ++ s2 ++ [c])
def tr_at (o : Nat → Nat) (h : nd_H) : Nat → Nat → Nat → List Nat → Prop
  | 0, _, _, _ => False
  | F + 1, f, a, s => o a = 1 ∧ ((∃ f1 b s1, f1 + 1 ≤ f ∧ h[a]? = some (.inr (nX16, [.ref b])) ∧ tr_at o h F f1 b s1 ∧ s = s1 ++ [18]) ∨ (∃ f1 sg c b1 b2 s1 s2, f1 + 1 ≤ f ∧ (sg = 61 ∧ c = 13 ∨ sg = 60 ∧ c = 14 ∨ sg = 62 ∧ c = 15) ∧ h[a]? = some (.inr (nX17, [.ref b1, .ref b2, .int (nI sg)])) ∧ su_at o h f1 b1 s1 ∧ su_at o h f1 b2 s2 ∧ s = s1 ++ s2 ++ [c]) ∨ (∃ f1 b1 b2 s1 s2, f1 + 1 ≤ f ∧ h[a]? = some (.inr (nX18, [.ref b1, .ref b2])) ∧ tr_at o h F f1 b1 s1 ∧ tr_at o h F f1 b2 s2 ∧ s = s1 ++ s2 ++ [16]) ∨ ∃ f1 b1 b2 s1 s2, f1 + 2 ≤ f ∧ h[a]? = some (.inr (nX19, [.ref b1, .ref b2])) ∧ tr_at o h F f1 b1 (s1 ++ [18]) ∧ tr_at o h F f1 b2 (s2 ++ [18]) ∧ s = s1 ++ s2 ++ [17])
theorem su_at.k {o : Nat → Nat} {h h2 : nd_H} (hf : fk o h h2) : ∀ {f a : Nat} {s : List Nat}, su_at o h f a s → su_at o h2 f a s := by
  intro f
  induction f with
  | zero => intro a s hs; exact hs
  | succ f ih =>
    intro a s hs
    obtain ⟨ho, hs⟩ := hs
    refine ⟨ho, ?_⟩
    rw [hf a ho]
    rcases hs with hs | hs | ⟨ci, c, b1, b2, s1, s2, e1, e2, e3, e4, e5⟩
    · exact Or.inl hs
    · exact Or.inr (Or.inl hs)
    · exact Or.inr (Or.inr ⟨ci, c, b1, b2, s1, s2, e1, e2, ih e3, ih e4, e5⟩)
theorem su_at.o2 {o o2 : Nat → Nat} {h : nd_H} (hf : ∀ a, o a = 1 → o2 a = 1) : ∀ {f a : Nat} {s : List Nat}, su_at o h f a s → su_at o2 h f a s := by
  intro f
  induction f with
  | zero => intro a s hs; exact hs
  | succ f ih =>
    intro a s hs
    obtain ⟨ho, hs⟩ := hs
    refine ⟨hf a ho, ?_⟩
    rcases hs with hs | hs | ⟨ci, c, b1, b2, s1, s2, e1, e2, e3, e4, e5⟩
    · exact Or.inl hs
    · exact Or.inr (Or.inl hs)
    · exact Or.inr (Or.inr ⟨ci, c, b1, b2, s1, s2, e1, e2, ih e3, ih e4, e5⟩)
theorem su_at.up {o : Nat → Nat} {h : nd_H} : ∀ {f f2 a : Nat} {s : List Nat}, su_at o h f a s → f ≤ f2 → su_at o h f2 a s := by
  intro f
  induction f with
  | zero => intro f2 a s hs; exact hs.elim
  | succ f ih =>
    intro f2 a s hs hle
    obtain ⟨f3, rfl⟩ : ∃ k, f2 = k + 1 := ⟨f2 - 1, by omega⟩
    obtain ⟨ho, hs⟩ := hs
    refine ⟨ho, ?_⟩
    rcases hs with hs | hs | ⟨ci, c, b1, b2, s1, s2, e1, e2, e3, e4, e5⟩
    · exact Or.inl hs
    · exact Or.inr (Or.inl hs)
    · exact Or.inr (Or.inr ⟨ci, c, b1, b2, s1, s2, e1, e2, ih e3 (by omega), ih e4 (by omega), e5⟩)
theorem tr_at.k {o : Nat → Nat} {h h2 : nd_H} (hf : fk o h h2) : ∀ {F f a : Nat} {s : List Nat}, tr_at o h F f a s → tr_at o h2 F f a s := by
  intro F
  induction F with
  | zero => intro f a s hs; exact hs
  | succ F ih =>
    intro f a s hs
    obtain ⟨ho, hs⟩ := hs
    refine ⟨ho, ?_⟩
    rw [hf a ho]
    rcases hs with ⟨f1, b, s1, e1, e2, e3, e4⟩ | ⟨f1, sg, c, b1, b2, s1, s2, e1, e2, e3, e4, e5, e6⟩ | ⟨f1, b1, b2, s1, s2, e1, e2, e3, e4, e5⟩ | ⟨f1, b1, b2, s1, s2, e1, e2, e3, e4, e5⟩
    · exact Or.inl ⟨f1, b, s1, e1, e2, ih e3, e4⟩
    · exact Or.inr (Or.inl ⟨f1, sg, c, b1, b2, s1, s2, e1, e2, e3, e4.k hf, e5.k hf, e6⟩)
    · exact Or.inr (Or.inr (Or.inl ⟨f1, b1, b2, s1, s2, e1, e2, ih e3, ih e4, e5⟩))
    · exact Or.inr (Or.inr (Or.inr ⟨f1, b1, b2, s1, s2, e1, e2, ih e3, ih e4, e5⟩))
theorem tr_at.o2 {o o2 : Nat → Nat} {h : nd_H} (hf : ∀ a, o a = 1 → o2 a = 1) : ∀ {F f a : Nat} {s : List Nat}, tr_at o h F f a s → tr_at o2 h F f a s := by
  intro F
  induction F with
  | zero => intro f a s hs; exact hs
  | succ F ih =>
    intro f a s hs
    obtain ⟨ho, hs⟩ := hs
    refine ⟨hf a ho, ?_⟩
    rcases hs with ⟨f1, b, s1, e1, e2, e3, e4⟩ | ⟨f1, sg, c, b1, b2, s1, s2, e1, e2, e3, e4, e5, e6⟩ | ⟨f1, b1, b2, s1, s2, e1, e2, e3, e4, e5⟩ | ⟨f1, b1, b2, s1, s2, e1, e2, e3, e4, e5⟩
    · exact Or.inl ⟨f1, b, s1, e1, e2, ih e3, e4⟩
    · exact Or.inr (Or.inl ⟨f1, sg, c, b1, b2, s1, s2, e1, e2, e3, e4.o2 hf, e5.o2 hf, e6⟩)
    · exact Or.inr (Or.inr (Or.inl ⟨f1, b1, b2, s1, s2, e1, e2, ih e3, ih e4, e5⟩))
    · exact Or.inr (Or.inr (Or.inr ⟨f1, b1, b2, s1, s2, e1, e2, ih e3, ih e4, e5⟩))
theorem tr_at.up {o : Nat → Nat} {h : nd_H} : ∀ {F f F2 f2 a : Nat} {s : List Nat}, tr_at o h F f a s → F ≤ F2 → f ≤ f2 → tr_at o h F2 f2 a s := by
  intro F
  induction F with
  | zero => intro f F2 f2 a s hs; exact hs.elim
  | succ F ih =>
    intro f F2 f2 a s hs hle hle2
    obtain ⟨F3, rfl⟩ : ∃ k, F2 = k + 1 := ⟨F2 - 1, by omega⟩
    obtain ⟨ho, hs⟩ := hs
    refine ⟨ho, ?_⟩
    rcases hs with ⟨f1, b, s1, e1, e2, e3, e4⟩ | ⟨f1, sg, c, b1, b2, s1, s2, e1, e2, e3, e4, e5, e6⟩ | ⟨f1, b1, b2, s1, s2, e1, e2, e3, e4, e5⟩ | ⟨f1, b1, b2, s1, s2, e1, e2, e3, e4, e5⟩
    · exact Or.inl ⟨f1, b, s1, by omega, e2, ih e3 (by omega) (Nat.le_refl _), e4⟩
    · exact Or.inr (Or.inl ⟨f1, sg, c, b1, b2, s1, s2, by omega, e2, e3, e4, e5, e6⟩)
    · exact Or.inr (Or.inr (Or.inl ⟨f1, b1, b2, s1, s2, by omega, e2, ih e3 (by omega) (Nat.le_refl _), ih e4 (by omega) (Nat.le_refl _), e5⟩))
    · exact Or.inr (Or.inr (Or.inr ⟨f1, b1, b2, s1, s2, by omega, e2, ih e3 (by omega) (Nat.le_refl _), ih e4 (by omega) (Nat.le_refl _), e5⟩))
/-- what is asked: the Case at 93, its row at 94 -/
def cz_T (h : nd_H) (tl : Nat → Int32) : Prop := h[93]? = some (.inr (nX5, [.ref 94])) ∧ h[94]? = some (.inl (0, 8, .inl tl))
theorem lw_ev_app (tl : Nat → Int32) (p q : List Nat) (s : List Int32) : lw_ev tl (p ++ q) s = lw_ev tl q (lw_ev tl p s) := by unfold lw_ev; rw [List.foldl_append]
theorem lw_ev_bin {tl : Nat → Int32} {s1 s2 : List Nat} {c : Nat} {v1 v2 : Int32} (h1 : ∀ st, lw_ev tl s1 st = v1 :: st) (h2 : ∀ st, lw_ev tl s2 st = v2 :: st) (hc : c < 18) (st : List Int32) : lw_ev tl (s1 ++ s2 ++ [c]) st = lw_dn c v1.toInt64 v2.toInt64 :: st := by
  rw [lw_ev_app, lw_ev_app, h1, h2]
  show lw_st tl (v2 :: v1 :: st) c = _
  unfold lw_st
  rw [if_neg (by omega), if_neg (by omega), if_neg (by omega)]
section TREES
variable {g : nd_G} {d : Nat} {K : nd_K} {h : nd_H} {o : Nat → Nat} {tl : Nat → Int32}
theorem ev_kept (hg : nd_OK g) {a : Nat} {v : Int64} (hk : K (.inl (some (.int (lw_bd v)))) h) : nd_M g mX41_kept d 0 0 [.ref a, .long v] h K := by
  refine nd_enter hg (by decide) rfl (Nat.le_of_ble_eq_true rfl) (fun X hC => ?_)
  refine nd_ldc2 hC q565 dX41_kept_0 ?_
  refine nd_ldc2 hC q566 dX41_kept_3 ?_
  refine nd_v_eq (y := .long (lN 1000000)) (by rfl) ?_
  refine nd_lload_n hC dX41_kept_6 rfl ?_
  refine nd_mminL hC q567 (by omega) (by omega) (by exact Nat.le_of_ble_eq_true rfl) dX41_kept_7 ?_
  refine nd_mmaxL hC q570 (by omega) (by omega) (by exact Nat.le_of_ble_eq_true rfl) dX41_kept_10 ?_
  first | with_reducible refine nd_l2iN hC dX41_kept_13 ?_ | refine nd_l2i hC dX41_kept_13 ?_
  refine nd_ireturn hC rfl (by first | rfl | exact nd_b_nar _) (by omega) (by omega) dX41_kept_14 (hk)
theorem ev_byX13 (hg : nd_OK g) {a : Nat} {x y : Int64} (hk : K (.inl (some (.long (x * y)))) h) : nd_M g mX13_by d 0 0 [.ref a, .long x, .long y] h K := by
  refine nd_enter hg (by decide) rfl (Nat.le_of_ble_eq_true rfl) (fun X hC => ?_)
  refine nd_lload_n hC dX13_by_0 rfl ?_
  refine nd_lload_n hC dX13_by_1 rfl ?_
  first | with_reducible refine nd_lmulN hC dX13_by_2 ?_ | refine nd_lmul hC dX13_by_2 ?_
  refine nd_lreturn hC rfl (by omega) (by omega) dX13_by_3 (hk)
theorem ev_byX14 (hg : nd_OK g) {a : Nat} {x y : Int64} (hk : K (.inl (some (.long (x + y)))) h) : nd_M g mX14_by d 0 0 [.ref a, .long x, .long y] h K := by
  refine nd_enter hg (by decide) rfl (Nat.le_of_ble_eq_true rfl) (fun X hC => ?_)
  refine nd_lload_n hC dX14_by_0 rfl ?_
  refine nd_lload_n hC dX14_by_1 rfl ?_
  first | with_reducible refine nd_laddN hC dX14_by_2 ?_ | refine nd_ladd hC dX14_by_2 ?_
  refine nd_lreturn hC rfl (by omega) (by omega) dX14_by_3 (hk)
theorem ev_byX15 (hg : nd_OK g) {a : Nat} {x y : Int64} (hk : K (.inl (some (.long (x - y)))) h) : nd_M g mX15_by d 0 0 [.ref a, .long x, .long y] h K := by
  refine nd_enter hg (by decide) rfl (Nat.le_of_ble_eq_true rfl) (fun X hC => ?_)
  refine nd_lload_n hC dX15_by_0 rfl ?_
  refine nd_lload_n hC dX15_by_1 rfl ?_
  refine nd_lsub hC dX15_by_2 ?_
  refine nd_lreturn hC rfl (by omega) (by omega) dX15_by_3 (hk)
theorem ev_twoX13 (hg : nd_OK g) (hd : 2 ≤ d) {a b1 b2 : Nat} {v1 v2 : Int32} (hb : h[a]? = some (.inr (nX13, [.ref b1, .ref b2]))) (E1 : ∀ K, K (.inl (some (.int v1))) h → ev_M g h b1 (d - 1) K) (E2 : ∀ K, K (.inl (some (.int v2))) h → ev_M g h b2 (d - 1) K) (hk : K (.inl (some (.int (lw_dn 12 v1.toInt64 v2.toInt64)))) h) : nd_M g mX12_of d 0 0 [.ref a, .ref 93] h K := by
  refine nd_enter hg (by decide) rfl (Nat.le_of_ble_eq_true rfl) (fun X hC => ?_)
  refine nd_aload_n hC dX12_of_0 rfl rfl ?_
  refine nd_aload_n hC dX12_of_1 rfl rfl ?_
  refine nd_aload_n hC dX12_of_2 rfl rfl ?_
  refine nd_get (ci := nX13) hC in_X13 rfl hb 0 (by decide) q1822 (fun _ z => z) rfl dX12_of_3 ?_
  refine nd_aload_n hC dX12_of_6 rfl rfl ?_
  refine ev_callX12 hC rfl (by omega) (by exact Nat.le_of_ble_eq_true rfl) (by omega) (by omega) dX12_of_7 (E1 _ ?_)
  first | with_reducible refine nd_i2lN hC (by omega) dX12_of_12 ?_ | refine nd_i2l hC dX12_of_12 ?_
  refine nd_aload_n hC dX12_of_13 rfl rfl ?_
  refine nd_get (ci := nX13) hC in_X13 rfl hb 1 (by decide) q1823 (fun _ z => z) rfl dX12_of_14 ?_
  refine nd_aload_n hC dX12_of_17 rfl rfl ?_
  refine ev_callX12 hC rfl (by omega) (by exact Nat.le_of_ble_eq_true rfl) (by omega) (by omega) dX12_of_18 (E2 _ ?_)
  first | with_reducible refine nd_i2lN hC (by omega) dX12_of_23 ?_ | refine nd_i2l hC dX12_of_23 ?_
  refine nd_callU (mm2 := mX13_by) (As := [_, _]) (mc2 := 0) (ms2 := 0) (d2 := d - 1) (owner := "NapkinDeeds$Two") (x := ⟨"NapkinDeeds$Two", "by", "(JJ)J"⟩) (n := 2) hC rfl (va_cwA 2 hC.hts (lw_U q545 q547 q554 q555 q180 q556) rfl rfl rfl (nd_dec hC q546) ⟨by decide, by decide, by decide +kernel⟩ (nd_roomR (by omega) (by decide))) hb rfl (by decide) (by omega) rfl (by exact Nat.le_of_ble_eq_true rfl) (by omega) (by omega) dX12_of_24 rfl (ev_byX13 hg ?_)
  refine nd_callD (n := 0) (As := [_]) (d2 := d - 1) hC rfl rfl hC.amb.2.2.2.2.2.2.1 hb rfl (by omega) rfl (by exact Nat.le_of_ble_eq_true rfl) (by omega) (by omega) dX12_of_27 rfl (ev_kept hg ?_)
  refine nd_ireturn hC rfl (by first | rfl | exact nd_b_nar _) (by omega) (by omega) dX12_of_30 (hk)
theorem ev_twoX14 (hg : nd_OK g) (hd : 2 ≤ d) {a b1 b2 : Nat} {v1 v2 : Int32} (hb : h[a]? = some (.inr (nX14, [.ref b1, .ref b2]))) (E1 : ∀ K, K (.inl (some (.int v1))) h → ev_M g h b1 (d - 1) K) (E2 : ∀ K, K (.inl (some (.int v2))) h → ev_M g h b2 (d - 1) K) (hk : K (.inl (some (.int (lw_dn 10 v1.toInt64 v2.toInt64)))) h) : nd_M g mX12_of d 0 0 [.ref a, .ref 93] h K := by
  refine nd_enter hg (by decide) rfl (Nat.le_of_ble_eq_true rfl) (fun X hC => ?_)
  refine nd_aload_n hC dX12_of_0 rfl rfl ?_
  refine nd_aload_n hC dX12_of_1 rfl rfl ?_
  refine nd_aload_n hC dX12_of_2 rfl rfl ?_
  refine nd_get (ci := nX14) hC in_X14 rfl hb 0 (by decide) q1822 (fun _ z => z) rfl dX12_of_3 ?_
  refine nd_aload_n hC dX12_of_6 rfl rfl ?_
  refine ev_callX12 hC rfl (by omega) (by exact Nat.le_of_ble_eq_true rfl) (by omega) (by omega) dX12_of_7 (E1 _ ?_)
  first | with_reducible refine nd_i2lN hC (by omega) dX12_of_12 ?_ | refine nd_i2l hC dX12_of_12 ?_
  refine nd_aload_n hC dX12_of_13 rfl rfl ?_
  refine nd_get (ci := nX14) hC in_X14 rfl hb 1 (by decide) q1823 (fun _ z => z) rfl dX12_of_14 ?_
  refine nd_aload_n hC dX12_of_17 rfl rfl ?_
  refine ev_callX12 hC rfl (by omega) (by exact Nat.le_of_ble_eq_true rfl) (by omega) (by omega) dX12_of_18 (E2 _ ?_)
  first | with_reducible refine nd_i2lN hC (by omega) dX12_of_23 ?_ | refine nd_i2l hC dX12_of_23 ?_
  refine nd_callU (mm2 := mX14_by) (As := [_, _]) (mc2 := 0) (ms2 := 0) (d2 := d - 1) (owner := "NapkinDeeds$Two") (x := ⟨"NapkinDeeds$Two", "by", "(JJ)J"⟩) (n := 2) hC rfl (va_cwA 2 hC.hts (lw_U q545 q547 q551 q552 q181 q553) rfl rfl rfl (nd_dec hC q546) ⟨by decide, by decide, by decide +kernel⟩ (nd_roomR (by omega) (by decide))) hb rfl (by decide) (by omega) rfl (by exact Nat.le_of_ble_eq_true rfl) (by omega) (by omega) dX12_of_24 rfl (ev_byX14 hg ?_)
  refine nd_callD (n := 0) (As := [_]) (d2 := d - 1) hC rfl rfl hC.amb.2.2.2.2.2.2.2.1 hb rfl (by omega) rfl (by exact Nat.le_of_ble_eq_true rfl) (by omega) (by omega) dX12_of_27 rfl (ev_kept hg ?_)
  refine nd_ireturn hC rfl (by first | rfl | exact nd_b_nar _) (by omega) (by omega) dX12_of_30 (hk)
theorem ev_twoX15 (hg : nd_OK g) (hd : 2 ≤ d) {a b1 b2 : Nat} {v1 v2 : Int32} (hb : h[a]? = some (.inr (nX15, [.ref b1, .ref b2]))) (E1 : ∀ K, K (.inl (some (.int v1))) h → ev_M g h b1 (d - 1) K) (E2 : ∀ K, K (.inl (some (.int v2))) h → ev_M g h b2 (d - 1) K) (hk : K (.inl (some (.int (lw_dn 11 v1.toInt64 v2.toInt64)))) h) : nd_M g mX12_of d 0 0 [.ref a, .ref 93] h K := by
  refine nd_enter hg (by decide) rfl (Nat.le_of_ble_eq_true rfl) (fun X hC => ?_)
  refine nd_aload_n hC dX12_of_0 rfl rfl ?_
  refine nd_aload_n hC dX12_of_1 rfl rfl ?_
  refine nd_aload_n hC dX12_of_2 rfl rfl ?_
  refine nd_get (ci := nX15) hC in_X15 rfl hb 0 (by decide) q1822 (fun _ z => z) rfl dX12_of_3 ?_
  refine nd_aload_n hC dX12_of_6 rfl rfl ?_
  refine ev_callX12 hC rfl (by omega) (by exact Nat.le_of_ble_eq_true rfl) (by omega) (by omega) dX12_of_7 (E1 _ ?_)
  first | with_reducible refine nd_i2lN hC (by omega) dX12_of_12 ?_ | refine nd_i2l hC dX12_of_12 ?_
  refine nd_aload_n hC dX12_of_13 rfl rfl ?_
  refine nd_get (ci := nX15) hC in_X15 rfl hb 1 (by decide) q1823 (fun _ z => z) rfl dX12_of_14 ?_
  refine nd_aload_n hC dX12_of_17 rfl rfl ?_
  refine ev_callX12 hC rfl (by omega) (by exact Nat.le_of_ble_eq_true rfl) (by omega) (by omega) dX12_of_18 (E2 _ ?_)
  first | with_reducible refine nd_i2lN hC (by omega) dX12_of_23 ?_ | refine nd_i2l hC dX12_of_23 ?_
  refine nd_callU (mm2 := mX15_by) (As := [_, _]) (mc2 := 0) (ms2 := 0) (d2 := d - 1) (owner := "NapkinDeeds$Two") (x := ⟨"NapkinDeeds$Two", "by", "(JJ)J"⟩) (n := 2) hC rfl (va_cwA 2 hC.hts (lw_U q545 q547 q548 q549 q182 q550) rfl rfl rfl (nd_dec hC q546) ⟨by decide, by decide, by decide +kernel⟩ (nd_roomR (by omega) (by decide))) hb rfl (by decide) (by omega) rfl (by exact Nat.le_of_ble_eq_true rfl) (by omega) (by omega) dX12_of_24 rfl (ev_byX15 hg ?_)
  refine nd_callD (n := 0) (As := [_]) (d2 := d - 1) hC rfl rfl hC.amb.2.2.2.2.2.2.2.2 hb rfl (by omega) rfl (by exact Nat.le_of_ble_eq_true rfl) (by omega) (by omega) dX12_of_27 rfl (ev_kept hg ?_)
  refine nd_ireturn hC rfl (by first | rfl | exact nd_b_nar _) (by omega) (by omega) dX12_of_30 (hk)
theorem ev_num (hg : nd_OK g) {a : Nat} {x : Int32} (hb : h[a]? = some (.inr (nX10, [.int x]))) (hk : K (.inl (some (.int x))) h) : nd_M g mX10_of d 0 0 [.ref a, .ref 93] h K := by
  refine nd_enter hg (by decide) rfl (Nat.le_of_ble_eq_true rfl) (fun X hC => ?_)
  refine nd_aload_n hC dX10_of_0 rfl rfl ?_
  refine nd_get (ci := nX10) hC in_X10 rfl hb 0 (by decide) q1795 (fun _ z => z) rfl dX10_of_1 ?_
  refine nd_ireturn hC rfl (by first | rfl | exact nd_b_nar _) (by omega) (by omega) dX10_of_4 (hk)
theorem ev_word (hg : nd_OK g) {a k : Nat} (hT : cz_T h tl) (hb : h[a]? = some (.inr (nX11, [.int (nI k)]))) (hk8 : k < 8) (hk : K (.inl (some (.int (tl k)))) h) : nd_M g mX11_of d 0 0 [.ref a, .ref 93] h K := by
  refine nd_enter hg (by decide) rfl (Nat.le_of_ble_eq_true rfl) (fun X hC => ?_)
  refine nd_aload_n hC dX11_of_0 rfl rfl ?_
  refine nd_getN (ci := nX5) hC in_X5 rfl hT.1 0 (by decide) q363 (fun _ z => z) rfl dX11_of_1 ?_
  refine nd_aload_n hC dX11_of_4 rfl rfl ?_
  refine nd_get (ci := nX11) hC in_X11 rfl hb 0 (by decide) q1805 (fun _ z => z) rfl dX11_of_5 ?_
  refine nd_ialoadN hC hT.2 (by omega) (by omega) dX11_of_8 ?_
  refine nd_ireturn hC rfl (by first | rfl | exact nd_b_nar _) (by omega) (by omega) dX11_of_9 (hk)
theorem ev_ok (hg : nd_OK g) (hT : cz_T h tl) : ∀ {f a : Nat} {s : List Nat}, su_at o h f a s → ∃ v, (∀ st, lw_ev tl s st = v :: st) ∧ ∀ d K, f + 2 ≤ d → K (.inl (some (.int v))) h → ev_M g h a d K := by
  intro f
  induction f with
  | zero => intro a s hs; exact hs.elim
  | succ f ih =>
    intro a s hs
    obtain ⟨ho, hs⟩ := hs
    rcases hs with ⟨n, hn, hb, rfl⟩ | ⟨k, hk8, hb, rfl⟩ | ⟨ci, c, b1, b2, s1, s2, e1, hb, e3, e4, rfl⟩
    · refine ⟨nI n, fun st => ?_, fun d K hd hk => Or.inl ⟨_, hb, ev_num hg hb hk⟩⟩
      show lw_st tl st (1000 + n) = _
      unfold lw_st
      rw [if_pos (by omega), Nat.add_sub_cancel_left]
    · refine ⟨tl k, fun st => ?_, fun d K hd hk => Or.inr (Or.inl ⟨_, hb, ev_word hg hT hb hk8 hk⟩)⟩
      show lw_st tl st (100 + k) = _
      unfold lw_st
      rw [if_neg (by omega), if_pos (by omega), Nat.add_sub_cancel_left]
    · obtain ⟨v1, h1, E1⟩ := ih e3
      obtain ⟨v2, h2, E2⟩ := ih e4
      refine ⟨lw_dn c v1.toInt64 v2.toInt64, lw_ev_bin h1 h2 (by omega), fun d K hd hk => ?_⟩
      have E1' : ∀ K, K (.inl (some (.int v1))) h → ev_M g h b1 (d - 1) K := fun K hk => E1 (d - 1) K (by omega) hk
      have E2' : ∀ K, K (.inl (some (.int v2))) h → ev_M g h b2 (d - 1) K := fun K hk => E2 (d - 1) K (by omega) hk
      rcases e1 with ⟨rfl, rfl⟩ | ⟨rfl, rfl⟩ | ⟨rfl, rfl⟩
      · exact Or.inr (Or.inr ⟨_, _, Or.inr (Or.inl rfl), hb, ev_twoX14 hg (by omega) hb E1' E2' hk⟩)
      · exact Or.inr (Or.inr ⟨_, _, Or.inr (Or.inr rfl), hb, ev_twoX15 hg (by omega) hb E1' E2' hk⟩)
      · exact Or.inr (Or.inr ⟨_, _, Or.inl rfl, hb, ev_twoX13 hg (by omega) hb E1' E2' hk⟩)
theorem et_not (hg : nd_OK g) (hd : 1 ≤ d) {a b : Nat} {x : Bool} (hb : h[a]? = some (.inr (nX16, [.ref b]))) (E1 : ∀ K, K (.inl (some (.int (nd_b x)))) h → et_M g h b (d - 1) K) (hk : K (.inl (some (.int (nd_b (!x))))) h) : nd_M g mX16_holds d 0 0 [.ref a, .ref 93] h K := by
  refine nd_enter hg (by decide) rfl (Nat.le_of_ble_eq_true rfl) (fun X hC => ?_)
  refine nd_aload_n hC dX16_holds_0 rfl rfl ?_
  refine nd_get (ci := nX16) hC in_X16 rfl hb 0 (by decide) q1871 (fun _ z => z) rfl dX16_holds_1 ?_
  refine nd_aload_n hC dX16_holds_4 rfl rfl ?_
  refine et_callX16 hC rfl (by omega) (by exact Nat.le_of_ble_eq_true rfl) (by omega) (by omega) dX16_holds_5 (E1 _ ?_)
  first | with_reducible refine nd_if_neB hC (tgt := 17) dX16_holds_10 (by decide) (fun hc => ?_) (fun hc => ?_) | with_reducible refine nd_if_neN hC (tgt := 17) (by omega) dX16_holds_10 (by decide) (fun hc => ?_) (fun hc => ?_) | refine nd_if_ne hC (tgt := 17) dX16_holds_10 (by decide) (fun hc => ?_) (fun hc => ?_)
  · subst hc
    refine nd_iconst hC (v := nI 0) (by rfl) dX16_holds_17 ?_
    refine nd_ireturn hC rfl (by first | rfl | exact nd_b_nar _) (by omega) (by omega) dX16_holds_18 (hk)
  · subst hc
    refine nd_iconst hC (v := nI 1) (by rfl) dX16_holds_13 ?_
    refine nd_goto hC (tgt := 18) dX16_holds_14 (by decide) ?_
    refine nd_ireturn hC rfl (by first | rfl | exact nd_b_nar _) (by omega) (by omega) dX16_holds_18 (hk)
theorem et_cmp (hg : nd_OK g) (hd : 1 ≤ d) {a b1 b2 sg c : Nat} {v1 v2 : Int32} (hsc : sg = 61 ∧ c = 13 ∨ sg = 60 ∧ c = 14 ∨ sg = 62 ∧ c = 15) (hb : h[a]? = some (.inr (nX17, [.ref b1, .ref b2, .int (nI sg)]))) (E1 : ∀ K, K (.inl (some (.int v1))) h → ev_M g h b1 (d - 1) K) (E2 : ∀ K, K (.inl (some (.int v2))) h → ev_M g h b2 (d - 1) K) (hk : K (.inl (some (.int (nd_b (if c = 13 then decide (v1 = v2) else if c = 14 then decide (v1 < v2) else decide (v2 < v1)))))) h) : nd_M g mX17_holds d 0 0 [.ref a, .ref 93] h K := by
  refine nd_enter hg (by decide) rfl (Nat.le_of_ble_eq_true rfl) (fun X hC => ?_)
  refine nd_aload_n hC dX17_holds_0 rfl rfl ?_
  refine nd_get (ci := nX17) hC in_X17 rfl hb 0 (by decide) q1881 (fun _ z => z) rfl dX17_holds_1 ?_
  refine nd_aload_n hC dX17_holds_4 rfl rfl ?_
  refine ev_callX17 hC rfl (by omega) (by exact Nat.le_of_ble_eq_true rfl) (by omega) (by omega) dX17_holds_5 (E1 _ ?_)
  refine nd_istore_n hC dX17_holds_10 (Nat.le_of_ble_eq_true rfl) ?_
  refine nd_aload_n hC dX17_holds_11 rfl rfl ?_
  refine nd_get (ci := nX17) hC in_X17 rfl hb 1 (by decide) q1882 (fun _ z => z) rfl dX17_holds_12 ?_
  refine nd_aload_n hC dX17_holds_15 rfl rfl ?_
  refine ev_callX17 hC rfl (by omega) (by exact Nat.le_of_ble_eq_true rfl) (by omega) (by omega) dX17_holds_16 (E2 _ ?_)
  refine nd_istore_n hC dX17_holds_21 (Nat.le_of_ble_eq_true rfl) ?_
  refine nd_aload_n hC dX17_holds_22 rfl rfl ?_
  refine nd_get (ci := nX17) hC in_X17 rfl hb 2 (by decide) q1883 (fun _ z => z) rfl dX17_holds_23 ?_
  refine nd_bipush hC (v := nI 61) (by rfl) dX17_holds_26 ?_
  first | with_reducible refine nd_icmp_neN hC (tgt := 44) (by omega) (by omega) dX17_holds_28 (by decide) (fun q1 => ?_) (fun q1 => ?_) | refine nd_icmp_ne hC (tgt := 44) dX17_holds_28 (by decide) (fun q1 => ?_) (fun q1 => ?_)
  · rw [if_neg (by omega)] at hk
    refine nd_aload_n hC dX17_holds_44 rfl rfl ?_
    refine nd_get (ci := nX17) hC in_X17 rfl hb 2 (by decide) q1883 (fun _ z => z) rfl dX17_holds_45 ?_
    refine nd_bipush hC (v := nI 60) (by rfl) dX17_holds_48 ?_
    first | with_reducible refine nd_icmp_neN hC (tgt := 66) (by omega) (by omega) dX17_holds_50 (by decide) (fun q2 => ?_) (fun q2 => ?_) | refine nd_icmp_ne hC (tgt := 66) dX17_holds_50 (by decide) (fun q2 => ?_) (fun q2 => ?_)
    · rw [if_neg (by omega)] at hk
      refine nd_iload_n hC dX17_holds_66 rfl ?_
      refine nd_iload_n hC dX17_holds_67 rfl ?_
      first | with_reducible refine nd_icmp_leN hC (tgt := 75) (by omega) (by omega) dX17_holds_68 (by decide) (fun q3 => ?_) (fun q3 => ?_) | refine nd_icmp_le hC (tgt := 75) dX17_holds_68 (by decide) (fun q3 => ?_) (fun q3 => ?_)
      · rw [decide_eq_false (Int32.not_lt.mpr q3)] at hk
        refine nd_iconst hC (v := nI 0) (by rfl) dX17_holds_75 ?_
        refine nd_ireturn hC rfl (by first | rfl | exact nd_b_nar _) (by omega) (by omega) dX17_holds_76 (hk)
      · rw [decide_eq_true (Int32.not_le.mp q3)] at hk
        refine nd_iconst hC (v := nI 1) (by rfl) dX17_holds_71 ?_
        refine nd_goto hC (tgt := 76) dX17_holds_72 (by decide) ?_
        refine nd_ireturn hC rfl (by first | rfl | exact nd_b_nar _) (by omega) (by omega) dX17_holds_76 (hk)
    · rw [if_pos (by omega)] at hk
      refine nd_iload_n hC dX17_holds_53 rfl ?_
      refine nd_iload_n hC dX17_holds_54 rfl ?_
      first | with_reducible refine nd_icmp_geN hC (tgt := 62) (by omega) (by omega) dX17_holds_55 (by decide) (fun q3 => ?_) (fun q3 => ?_) | refine nd_icmp_ge hC (tgt := 62) dX17_holds_55 (by decide) (fun q3 => ?_) (fun q3 => ?_)
      · rw [decide_eq_false (Int32.not_lt.mpr q3)] at hk
        refine nd_iconst hC (v := nI 0) (by rfl) dX17_holds_62 ?_
        refine nd_goto hC (tgt := 76) dX17_holds_63 (by decide) ?_
        refine nd_ireturn hC rfl (by first | rfl | exact nd_b_nar _) (by omega) (by omega) dX17_holds_76 (hk)
      · rw [decide_eq_true (Int32.not_le.mp q3)] at hk
        refine nd_iconst hC (v := nI 1) (by rfl) dX17_holds_58 ?_
        refine nd_goto hC (tgt := 76) dX17_holds_59 (by decide) ?_
        refine nd_ireturn hC rfl (by first | rfl | exact nd_b_nar _) (by omega) (by omega) dX17_holds_76 (hk)
  · rw [if_pos (by omega)] at hk
    refine nd_iload_n hC dX17_holds_31 rfl ?_
    refine nd_iload_n hC dX17_holds_32 rfl ?_
    first | with_reducible refine nd_icmp_neN hC (tgt := 40) (by omega) (by omega) dX17_holds_33 (by decide) (fun q3 => ?_) (fun q3 => ?_) | refine nd_icmp_ne hC (tgt := 40) dX17_holds_33 (by decide) (fun q3 => ?_) (fun q3 => ?_)
    · rw [decide_eq_false q3] at hk
      refine nd_iconst hC (v := nI 0) (by rfl) dX17_holds_40 ?_
      refine nd_goto hC (tgt := 76) dX17_holds_41 (by decide) ?_
      refine nd_ireturn hC rfl (by first | rfl | exact nd_b_nar _) (by omega) (by omega) dX17_holds_76 (hk)
    · rw [decide_eq_true q3] at hk
      refine nd_iconst hC (v := nI 1) (by rfl) dX17_holds_36 ?_
      refine nd_goto hC (tgt := 76) dX17_holds_37 (by decide) ?_
      refine nd_ireturn hC rfl (by first | rfl | exact nd_b_nar _) (by omega) (by omega) dX17_holds_76 (hk)
theorem et_bothX18 (hg : nd_OK g) (hd : 1 ≤ d) {a b1 b2 : Nat} {x1 x2 : Bool} (hb : h[a]? = some (.inr (nX18, [.ref b1, .ref b2]))) (E1 : ∀ K, K (.inl (some (.int (nd_b x1)))) h → et_M g h b1 (d - 1) K) (E2 : ∀ K, K (.inl (some (.int (nd_b x2)))) h → et_M g h b2 (d - 1) K) (hk : K (.inl (some (.int (nd_b (x1 && x2))))) h) : nd_M g mX18_holds d 0 0 [.ref a, .ref 93] h K := by
  refine nd_enter hg (by decide) rfl (Nat.le_of_ble_eq_true rfl) (fun X hC => ?_)
  refine nd_aload_n hC dX18_holds_0 rfl rfl ?_
  refine nd_get (ci := nX18) hC in_X18 rfl hb 0 (by decide) q1898 (fun _ z => z) rfl dX18_holds_1 ?_
  refine nd_aload_n hC dX18_holds_4 rfl rfl ?_
  refine et_callX18 hC rfl (by omega) (by exact Nat.le_of_ble_eq_true rfl) (by omega) (by omega) dX18_holds_5 (E1 _ ?_)
  first | with_reducible refine nd_if_eqB hC (tgt := 30) dX18_holds_10 (by decide) (fun hc => ?_) (fun hc => ?_) | with_reducible refine nd_if_eqN hC (tgt := 30) (by omega) dX18_holds_10 (by decide) (fun hc => ?_) (fun hc => ?_) | refine nd_if_eq hC (tgt := 30) dX18_holds_10 (by decide) (fun hc => ?_) (fun hc => ?_)
  · subst hc
    refine nd_iconst hC (v := nI 0) (by rfl) dX18_holds_30 ?_
    refine nd_ireturn hC rfl (by first | rfl | exact nd_b_nar _) (by omega) (by omega) dX18_holds_31 (hk)
  · subst hc
    refine nd_aload_n hC dX18_holds_13 rfl rfl ?_
    refine nd_get (ci := nX18) hC in_X18 rfl hb 1 (by decide) q1899 (fun _ z => z) rfl dX18_holds_14 ?_
    refine nd_aload_n hC dX18_holds_17 rfl rfl ?_
    refine et_callX18 hC rfl (by omega) (by exact Nat.le_of_ble_eq_true rfl) (by omega) (by omega) dX18_holds_18 (E2 _ ?_)
    first | with_reducible refine nd_if_eqB hC (tgt := 30) dX18_holds_23 (by decide) (fun hc2 => ?_) (fun hc2 => ?_) | with_reducible refine nd_if_eqN hC (tgt := 30) (by omega) dX18_holds_23 (by decide) (fun hc2 => ?_) (fun hc2 => ?_) | refine nd_if_eq hC (tgt := 30) dX18_holds_23 (by decide) (fun hc2 => ?_) (fun hc2 => ?_)
    · subst hc2
      refine nd_iconst hC (v := nI 0) (by rfl) dX18_holds_30 ?_
      refine nd_ireturn hC rfl (by first | rfl | exact nd_b_nar _) (by omega) (by omega) dX18_holds_31 (hk)
    · subst hc2
      refine nd_iconst hC (v := nI 1) (by rfl) dX18_holds_26 ?_
      refine nd_goto hC (tgt := 31) dX18_holds_27 (by decide) ?_
      refine nd_ireturn hC rfl (by first | rfl | exact nd_b_nar _) (by omega) (by omega) dX18_holds_31 (hk)
theorem et_bothX19 (hg : nd_OK g) (hd : 1 ≤ d) {a b1 b2 : Nat} {x1 x2 : Bool} (hb : h[a]? = some (.inr (nX19, [.ref b1, .ref b2]))) (E1 : ∀ K, K (.inl (some (.int (nd_b x1)))) h → et_M g h b1 (d - 1) K) (E2 : ∀ K, K (.inl (some (.int (nd_b x2)))) h → et_M g h b2 (d - 1) K) (hk : K (.inl (some (.int (nd_b (x1 && x2))))) h) : nd_M g mX18_holds d 0 0 [.ref a, .ref 93] h K := by
  refine nd_enter hg (by decide) rfl (Nat.le_of_ble_eq_true rfl) (fun X hC => ?_)
  refine nd_aload_n hC dX18_holds_0 rfl rfl ?_
  refine nd_get (ci := nX19) hC in_X19 rfl hb 0 (by decide) q1898 (fun _ z => z) rfl dX18_holds_1 ?_
  refine nd_aload_n hC dX18_holds_4 rfl rfl ?_
  refine et_callX18 hC rfl (by omega) (by exact Nat.le_of_ble_eq_true rfl) (by omega) (by omega) dX18_holds_5 (E1 _ ?_)
  first | with_reducible refine nd_if_eqB hC (tgt := 30) dX18_holds_10 (by decide) (fun hc => ?_) (fun hc => ?_) | with_reducible refine nd_if_eqN hC (tgt := 30) (by omega) dX18_holds_10 (by decide) (fun hc => ?_) (fun hc => ?_) | refine nd_if_eq hC (tgt := 30) dX18_holds_10 (by decide) (fun hc => ?_) (fun hc => ?_)
  · subst hc
    refine nd_iconst hC (v := nI 0) (by rfl) dX18_holds_30 ?_
    refine nd_ireturn hC rfl (by first | rfl | exact nd_b_nar _) (by omega) (by omega) dX18_holds_31 (hk)
  · subst hc
    refine nd_aload_n hC dX18_holds_13 rfl rfl ?_
    refine nd_get (ci := nX19) hC in_X19 rfl hb 1 (by decide) q1899 (fun _ z => z) rfl dX18_holds_14 ?_
    refine nd_aload_n hC dX18_holds_17 rfl rfl ?_
    refine et_callX18 hC rfl (by omega) (by exact Nat.le_of_ble_eq_true rfl) (by omega) (by omega) dX18_holds_18 (E2 _ ?_)
    first | with_reducible refine nd_if_eqB hC (tgt := 30) dX18_holds_23 (by decide) (fun hc2 => ?_) (fun hc2 => ?_) | with_reducible refine nd_if_eqN hC (tgt := 30) (by omega) dX18_holds_23 (by decide) (fun hc2 => ?_) (fun hc2 => ?_) | refine nd_if_eq hC (tgt := 30) dX18_holds_23 (by decide) (fun hc2 => ?_) (fun hc2 => ?_)
    · subst hc2
      refine nd_iconst hC (v := nI 0) (by rfl) dX18_holds_30 ?_
      refine nd_ireturn hC rfl (by first | rfl | exact nd_b_nar _) (by omega) (by omega) dX18_holds_31 (hk)
    · subst hc2
      refine nd_iconst hC (v := nI 1) (by rfl) dX18_holds_26 ?_
      refine nd_goto hC (tgt := 31) dX18_holds_27 (by decide) ?_
      refine nd_ireturn hC rfl (by first | rfl | exact nd_b_nar _) (by omega) (by omega) dX18_holds_31 (hk)
theorem et_either (hg : nd_OK g) (hd : 2 ≤ d) {a b1 b2 : Nat} {x1 x2 : Bool} (hb : h[a]? = some (.inr (nX19, [.ref b1, .ref b2]))) (E1 : ∀ K, K (.inl (some (.int (nd_b x1)))) h → et_M g h b1 (d - 1 - 1) K) (E2 : ∀ K, K (.inl (some (.int (nd_b x2)))) h → et_M g h b2 (d - 1 - 1) K) (hk : K (.inl (some (.int (nd_b (!(x1 && x2)))))) h) : nd_M g mX19_holds d 0 0 [.ref a, .ref 93] h K := by
  refine nd_enter hg (by decide) rfl (Nat.le_of_ble_eq_true rfl) (fun X hC => ?_)
  refine nd_aload_n hC dX19_holds_0 rfl rfl ?_
  refine nd_aload_n hC dX19_holds_1 rfl rfl ?_
  refine nd_callSU (mm2 := mX18_holds) (As := [_]) (mc2 := 0) (ms2 := 0) (d2 := d - 1) hC rfl (lw_SU q607 q3484 q608 q588 q185 q590) ⟨by decide, by decide +kernel⟩ hb rfl (by decide) (by omega) rfl (by exact Nat.le_of_ble_eq_true rfl) (by omega) (by omega) dX19_holds_2 rfl (et_bothX19 hg (by omega) hb E1 E2 ?_)
  generalize (x1 && x2) = y at hk ⊢
  first | with_reducible refine nd_if_neB hC (tgt := 12) dX19_holds_5 (by decide) (fun hc => ?_) (fun hc => ?_) | with_reducible refine nd_if_neN hC (tgt := 12) (by omega) dX19_holds_5 (by decide) (fun hc => ?_) (fun hc => ?_) | refine nd_if_ne hC (tgt := 12) dX19_holds_5 (by decide) (fun hc => ?_) (fun hc => ?_)
  · subst hc
    refine nd_iconst hC (v := nI 0) (by rfl) dX19_holds_12 ?_
    refine nd_ireturn hC rfl (by first | rfl | exact nd_b_nar _) (by omega) (by omega) dX19_holds_13 (hk)
  · subst hc
    refine nd_iconst hC (v := nI 1) (by rfl) dX19_holds_8 ?_
    refine nd_goto hC (tgt := 13) dX19_holds_9 (by decide) ?_
    refine nd_ireturn hC rfl (by first | rfl | exact nd_b_nar _) (by omega) (by omega) dX19_holds_13 (hk)
theorem nd_b_not (x : Bool) : nI 1 - nd_b x = nd_b (!x) := by cases x <;> rfl
theorem nd_b_inj {x y : Bool} (h : nd_b x = nd_b y) : x = y := by
  cases x <;> cases y <;> first | rfl | exact absurd h (by decide)
theorem lw_ev_unnot {s1 : List Nat} {x : Bool} (h1 : ∀ st, lw_ev tl (s1 ++ [18]) st = nd_b x :: st) : ∀ st, lw_ev tl s1 st = nd_b (!x) :: st := by
  intro st
  have h2 := h1 st
  rw [lw_ev_app] at h2
  have h2 : lw_st tl (lw_ev tl s1 st) 18 = nd_b x :: st := h2
  unfold lw_st at h2
  rw [if_neg (by omega), if_neg (by omega), if_pos rfl] at h2
  cases e : lw_ev tl s1 st with
  | nil => rw [e] at h2; cases h2
  | cons y t =>
    rw [e] at h2
    have h3 : (nI 1 - y) :: t = nd_b x :: st := h2
    have h4 := (List.cons.inj h3).1
    rw [(List.cons.inj h3).2, ← nd_b_not, ← h4]
    congr 1
    rw [Int32.sub_eq_add_neg, Int32.sub_eq_add_neg, Int32.neg_add, Int32.sub_eq_add_neg, Int32.neg_neg, ← Int32.add_assoc, Int32.add_right_neg, Int32.zero_add]
theorem et_ok (hg : nd_OK g) (hT : cz_T h tl) : ∀ {F f a : Nat} {s : List Nat}, tr_at o h F f a s → ∃ x : Bool, (∀ st, lw_ev tl s st = nd_b x :: st) ∧ ∀ d K, f + 3 ≤ d → K (.inl (some (.int (nd_b x)))) h → et_M g h a d K := by
  intro F
  induction F with
  | zero => intro f a s hs; exact hs.elim
  | succ F ih =>
    intro f a s hs
    obtain ⟨ho, hs⟩ := hs
    rcases hs with ⟨f1, b, s1, e1, hb, e3, rfl⟩ | ⟨f1, sg, c, b1, b2, s1, s2, e1, e2, hb, e4, e5, rfl⟩ | ⟨f1, b1, b2, s1, s2, e1, hb, e3, e4, rfl⟩ | ⟨f1, b1, b2, s1, s2, e1, hb, e3, e4, rfl⟩
    · obtain ⟨x, h1, E⟩ := ih e3
      refine ⟨!x, fun st => ?_, fun d K hd hk => Or.inl ⟨_, hb, et_not hg (by omega) hb (fun K hk => E (d - 1) K (by omega) hk) hk⟩⟩
      rw [lw_ev_app, h1]
      show lw_st tl (nd_b x :: st) 18 = _
      unfold lw_st
      rw [if_neg (by omega), if_neg (by omega), if_pos rfl]
      show (nI 1 - nd_b x) :: st = _
      rw [nd_b_not]
    · obtain ⟨v1, h1, E1⟩ := ev_ok hg hT e4
      obtain ⟨v2, h2, E2⟩ := ev_ok hg hT e5
      refine ⟨if c = 13 then decide (v1 = v2) else if c = 14 then decide (v1 < v2) else decide (v2 < v1), fun st => ?_, fun d K hd hk => Or.inr (Or.inl ⟨_, hb, et_cmp hg (by omega) e2 hb (fun K hk => E1 (d - 1) K (by omega) hk) (fun K hk => E2 (d - 1) K (by omega) hk) hk⟩)⟩
      rw [lw_ev_bin h1 h2 (by omega)]
      congr 1
      have k1 : ∀ x y : Int32, (x.toInt64 = y.toInt64) ↔ x = y := fun x y => by rw [← Int64.toInt_inj, nd_tl, nd_tl, Int32.toInt_inj]
      have k2 : ∀ x y : Int32, (x.toInt64 < y.toInt64) ↔ x < y := fun x y => by rw [Int64.lt_iff_toInt_lt, nd_tl, nd_tl, Int32.lt_iff_toInt_lt]
      rcases e2 with ⟨-, rfl⟩ | ⟨-, rfl⟩ | ⟨-, rfl⟩
      · show nd_b (decide (v1.toInt64 = v2.toInt64)) = nd_b (decide (v1 = v2))
        rw [decide_eq_decide.mpr (k1 v1 v2)]
      · show nd_b (decide (v1.toInt64 < v2.toInt64)) = nd_b (decide (v1 < v2))
        rw [decide_eq_decide.mpr (k2 v1 v2)]
      · show nd_b (decide (v2.toInt64 < v1.toInt64)) = nd_b (decide (v2 < v1))
        rw [decide_eq_decide.mpr (k2 v2 v1)]
    · obtain ⟨x1, h1, E1⟩ := ih e3
      obtain ⟨x2, h2, E2⟩ := ih e4
      refine ⟨x1 && x2, fun st => ?_, fun d K hd hk => Or.inr (Or.inr (Or.inl ⟨_, hb, et_bothX18 hg (by omega) hb (fun K hk => E1 (d - 1) K (by omega) hk) (fun K hk => E2 (d - 1) K (by omega) hk) hk⟩))⟩
      rw [lw_ev_bin h1 h2 (by omega)]
      congr 1
      cases x1 <;> cases x2 <;> decide
    · obtain ⟨x1, h1, E1⟩ := ih e3
      obtain ⟨x2, h2, E2⟩ := ih e4
      refine ⟨!(x1 && x2), fun st => ?_, fun d K hd hk => Or.inr (Or.inr (Or.inr ⟨_, hb, et_either hg (by omega) hb (fun K hk => E1 (d - 1 - 1) K (by omega) hk) (fun K hk => E2 (d - 1 - 1) K (by omega) hk) hk⟩))⟩
      rw [lw_ev_bin (lw_ev_unnot h1) (lw_ev_unnot h2) (by omega)]
      congr 1
      cases x1 <;> cases x2 <;> decide
end TREES

