set_option maxRecDepth 100000
def mo_bs (A00 : Nat → Nat → Int32) (F00 : Nat → Int32) (B00 : Nat → Nat → Int64) (A : Nat → Nat → Int32) (F : Nat → Int32) (B : Nat → Nat → Int64) : Prop := (∀ k, mo_sa k = false → k ≠ 19 → k ≠ 25 → A k = A00 k) ∧ (∀ k, mo_sf k = false → F k = F00 k) ∧ ∀ k, k ≠ 35 → B k = B00 k
theorem mo_bs.fx {A00 : Nat → Nat → Int32} {F00 : Nat → Int32} {B00 : Nat → Nat → Int64} {A A2 : Nat → Nat → Int32} {F F2 : Nat → Int32} {B B2 : Nat → Nat → Int64} (h : mo_bs A00 F00 B00 A F B) (h2 : mo_fx A A2 F F2 B B2) : mo_bs A00 F00 B00 A2 F2 B2 := ⟨fun k a b c => (h2.1 k a).trans (h.1 k a b c), fun k a => (h2.2.1 k a).trans (h.2.1 k a), fun k a => (h2.2.2.1 k a).trans (h.2.2 k a)⟩
theorem mo_bs.up19 {A00 : Nat → Nat → Int32} {F00 : Nat → Int32} {B00 : Nat → Nat → Int64} {A : Nat → Nat → Int32} {F : Nat → Int32} {B : Nat → Nat → Int64} (h : mo_bs A00 F00 B00 A F B) (f : Nat → Int32) : mo_bs A00 F00 B00 (va_up A 19 f) F B := ⟨fun k a b c => by rw [va_up_n A f b]; exact h.1 k a b c, h.2⟩
theorem mo_bs.up25 {A00 : Nat → Nat → Int32} {F00 : Nat → Int32} {B00 : Nat → Nat → Int64} {A : Nat → Nat → Int32} {F : Nat → Int32} {B : Nat → Nat → Int64} (h : mo_bs A00 F00 B00 A F B) (f : Nat → Int32) : mo_bs A00 F00 B00 (va_up A 25 f) F B := ⟨fun k a b c => by rw [va_up_n A f c]; exact h.1 k a b c, h.2⟩
theorem mo_fx.upA {A A2 : Nat → Nat → Int32} {F F2 : Nat → Int32} {B B2 : Nat → Nat → Int64} (h : mo_fx A A2 F F2 B B2) {k : Nat} (hk : mo_sa k = true) (f : Nat → Int32) (h36 : 36 ≠ k := by decide) : mo_fx A (va_up A2 k f) F F2 B B2 := ⟨fun j a => by rw [va_up_n A2 f (fun z => by rw [z, hk] at a; cases a)]; exact h.1 j a, h.2.1, h.2.2.1, by rw [va_up_n A2 f h36]; exact h.2.2.2⟩
theorem mo_fx.upT {A A2 : Nat → Nat → Int32} {F F2 : Nat → Int32} {B B2 : Nat → Nat → Int64} (h : mo_fx A A2 F F2 B B2) {fa : Nat → Int32} (ht : mo_tbx (A2 36) (F 37) fa) : mo_fx A (va_up A2 36 fa) F F2 B B2 := ⟨fun j a => by rw [va_up_n A2 fa (fun z => by rw [z] at a; cases a)]; exact h.1 j a, h.2.1, h.2.2.1, by rw [va_up_s]; exact h.2.2.2.trans ht (Eq.refl _)⟩
theorem mo_fx.upF {A A2 : Nat → Nat → Int32} {F F2 : Nat → Int32} {B B2 : Nat → Nat → Int64} (h : mo_fx A A2 F F2 B B2) {k : Nat} (hk : mo_sf k = true) (v : Int32) : mo_fx A A2 F (va_up F2 k v) B B2 := ⟨h.1, fun j a => by rw [va_up_n F2 v (fun z => by rw [z, hk] at a; cases a)]; exact h.2.1 j a, h.2.2⟩
theorem mo_fx.upB {A A2 : Nat → Nat → Int32} {F F2 : Nat → Int32} {B B2 : Nat → Nat → Int64} (h : mo_fx A A2 F F2 B B2) (f : Nat → Int64) : mo_fx A A2 F F2 B (va_up B2 35 f) := ⟨h.1, h.2.1, fun j a => by rw [va_up_n B2 f a]; exact h.2.2.1 j a, h.2.2.2⟩
theorem mo_s2.fx {A A2 : Nat → Nat → Int32} {F : Nat → Int32} {B : Nat → Nat → Int64} (h : mo_s2 A A2) : mo_fx A A2 F F B B := ⟨fun k a => h k (fun z => by subst z; cases a) (fun z => by subst z; cases a), fun _ _ => Eq.refl _, fun _ _ => Eq.refl _, by rw [h 36 (by decide) (by decide)]; exact mo_tbx.rfl⟩
/-! ===== rows are counted ===== -/
def se_rows : Nat → lv_E → Nat × Bool := fun s _ => (s + 1, false)
def iv_rows (A00 : Nat → Nat → Int32) (F00 : Nat → Int32) (B00 : Nat → Nat → Int64) (s : Nat) (A : Nat → Nat → Int32) (F : Nat → Int32) (B : Nat → Nat → Int64) : Prop := mo_bs A00 F00 B00 A F B ∧ F 28 = nI 0 ∧ F 30 = nI s
/-! ===== unlike ones are counted ===== -/
noncomputable def se_un (cond : lv_E → Bool) (code : lv_E → Int64) : List Int64 → lv_E → List Int64 × Bool := fun s x => (if cond x = true then (if code x ∈ s then s else code x :: s) else s, false)
def iv_un (what : Nat) (A00 : Nat → Nat → Int32) (F00 : Nat → Int32) (B00 : Nat → Nat → Int64) (s : List Int64) (A : Nat → Nat → Int32) (F : Nat → Int32) (B : Nat → Nat → Int64) : Prop := mo_bs A00 F00 B00 A F B ∧ F 28 = nI what ∧ F 30 = nI s.length ∧ tb_ok (B 35) (A 36) (F 37) s
section MO14
variable {g : nd_G} {h0 : nd_H} {A00 : Nat → Nat → Int32} {F00 : Nat → Int32} {B00 : Nat → Nat → Int64} {n fm d : Nat}
theorem se_rows_ok (hg : nd_OK g) : mo_see g h0 d n fm Nat se_rows (fun _ => True) (iv_rows A00 F00 B00) := by
  intro s r l A F B h K hB hI hw hl hok hr hF hlen hk
  refine nd_enter hg (by decide) rfl (Nat.le_of_ble_eq_true rfl) (fun X hC => ?_)
  refine nd_aload_n hC dX7_sees_0 rfl rfl ?_
  refine mo_get_askedWhat hC hw rfl dX7_sees_1 ?_
  rw [hI.2.1]
  refine nd_tableIn hC (tgt := 76) dX7_sees_4 (by decide) (by decide) (by rfl) (by decide) ?_
  refine nd_aload_n hC dX7_sees_76 rfl rfl ?_
  refine nd_dup hC (by rfl) dX7_sees_77 ?_
  refine mo_get_rowMany hC hw rfl dX7_sees_78 ?_
  rw [hI.2.2]
  refine nd_iconst hC (v := nI 1) (by rfl) dX7_sees_81 ?_
  first | with_reducible refine nd_iaddN hC dX7_sees_82 ?_ | refine nd_iadd hC dX7_sees_82 ?_
  refine mo_put_rowMany hC hw rfl dX7_sees_83 (fun h hw => ?_)
  refine nd_iconst hC (v := nI 0) (by rfl) dX7_sees_86 ?_
  refine nd_ireturn hC rfl (by first | rfl | exact nd_b_nar _) (by omega) (by omega) dX7_sees_87 ((hk A _ B h ⟨hI.1.fx (mo_fx.rfl.upF (k := 30) rfl _), hI.2.1, rfl⟩ (mo_fx.rfl.upF (k := 30) rfl _) hw))
/-- the end of each of them: it is new, or not -/
theorem se_un_end {what : Nat} {s : List Int64} {A A1 : Nat → Nat → Int32} {F : Nat → Int32} {B : Nat → Nat → Int64} {fa : Nat → Int32} {fb : Nat → Int64} {x : Int64} (hI : iv_un what A00 F00 B00 s A F B) (h1 : mo_fx A A1 F F B B) (htx : mo_tbx (A1 36) (F 37) fa) (ht : tb_ok fb fa (F 37) (if x ∈ s then s else x :: s)) : iv_un what A00 F00 B00 (if x ∈ s then s else x :: s) (va_up A1 36 fa) (va_up F 30 (nI (if x ∈ s then s else x :: s).length)) (va_up B 35 fb) ∧ mo_fx A (va_up A1 36 fa) F (va_up F 30 (nI (if x ∈ s then s else x :: s).length)) B (va_up B 35 fb) := by
  have q := ((h1.upT htx).upF (k := 30) rfl (nI (if x ∈ s then s else x :: s).length)).upB fb
  refine ⟨⟨hI.1.fx q, hI.2.1, by rw [va_up_s], ?_⟩, q⟩
  rw [va_up_s, va_up_s]; exact ht
theorem se_un_cnt {s : List Int64} {x : Int64} : nI s.length + nd_b (decide (x ∉ s)) = nI (if x ∈ s then s else x :: s).length := by
  by_cases q : x ∈ s
  · rw [if_pos q, decide_eq_false (by simpa using q)]; show nI s.length + nI 0 = _; rw [nI_add]; rfl
  · rw [if_neg q, decide_eq_true q]; show nI s.length + nI 1 = _; rw [nI_add]; rfl
theorem se_un_table {what : Nat} {s : List Int64} {A A1 : Nat → Nat → Int32} {F : Nat → Int32} {B : Nat → Nat → Int64} (hI : iv_un what A00 F00 B00 s A F B) (h36 : A1 36 = A 36) : tb_ok (B 35) (A1 36) (F 37) s := by rw [h36]; exact hI.2.2.2
theorem se_un_skip {what : Nat} {s : List Int64} {A A1 : Nat → Nat → Int32} {F : Nat → Int32} {B : Nat → Nat → Int64} (hI : iv_un what A00 F00 B00 s A F B) (h1 : mo_fx A A1 F F B B) (h36 : A1 36 = A 36) : iv_un what A00 F00 B00 s A1 (va_up F 30 (nI (s.length + 0))) B ∧ mo_fx A A1 F (va_up F 30 (nI (s.length + 0))) B B := by
  have q := h1.upF (k := 30) rfl (nI (s.length + 0))
  refine ⟨⟨hI.1.fx q, hI.2.1, by rw [va_up_s]; rfl, ?_⟩, q⟩
  rw [h36]; exact hI.2.2.2
theorem se_looks_ok (hg : nd_OK g) (hd : 3 ≤ d) (hn : n ≤ 6) (hfm : fm ≤ 5) (hc0 : A00 0 1 = nI n) : mo_see g h0 d n fm (List Int64) (se_un (fun _ => true) (fun x => lN (lk_code x.2 n))) (fun s => s.length < tb_T) (iv_un 1 A00 F00 B00) := by
  intro s r l A F B h K hB hI hw hl hok hr hF hlen hk
  have hk : ∀ A2 F2 B2 h2, iv_un 1 A00 F00 B00 (if lN (lk_code l n) ∈ s then s else lN (lk_code l n) :: s) A2 F2 B2 → mo_fx A A2 F F2 B B2 → mo_W h0 A2 F2 B2 h2 → K (.inl (some (.int (nI 0)))) h2 := hk
  have e0 : A 0 1 = nI n := by rw [hI.1.1 0 rfl (by decide) (by decide)]; exact hc0
  refine nd_enter hg (by decide) rfl (Nat.le_of_ble_eq_true rfl) (fun X hC => ?_)
  refine nd_aload_n hC dX7_sees_0 rfl rfl ?_
  refine mo_get_askedWhat hC hw rfl dX7_sees_1 ?_
  rw [hI.2.1]
  refine nd_tableIn hC (tgt := 88) dX7_sees_4 (by decide) (by decide) (by rfl) (by decide) ?_
  refine nd_aload_n hC dX7_sees_88 rfl rfl ?_
  refine nd_dup hC (by rfl) dX7_sees_89 ?_
  refine mo_get_rowMany hC hw rfl dX7_sees_90 ?_
  refine nd_aload_n hC dX7_sees_93 rfl rfl ?_
  refine nd_aload_n hC dX7_sees_94 rfl rfl ?_
  refine nd_iload_n hC dX7_sees_95 rfl ?_
  rw [hI.2.2.1]
  refine mo_callV (As := [_]) (d2 := d - 1) hC hw rfl lkX7_455 lyX7_455 (Nat.le_of_ble_eq_true rfl) (by omega) rfl (by exact Nat.le_of_ble_eq_true rfl) (Nat.zero_le _) (Nat.zero_le _) dX7_sees_96 rfl ((sp_lookAt hg (by omega) hw (by omega) e0 hl hok hn ?_))
  intro f2 h hw
  refine mo_callV (As := [_]) (d2 := d - 1) hC hw rfl lkX7_459 lyX7_459 (Nat.le_of_ble_eq_true rfl) (by omega) rfl (by exact Nat.le_of_ble_eq_true rfl) (Nat.zero_le _) (Nat.zero_le _) dX7_sees_99 rfl ((sp_isNew hg hw (se_un_table hI (va_up_n A f2 (by decide))) hB ?_))
  intro fa fb h htx ht hw
  obtain ⟨q1, q2⟩ := se_un_end hI (mo_fx.rfl.upA (k := 20) rfl f2) htx ht
  have J : nd_W g mX7_sees d 0 0 K X 110 [some (.ref 101), some (.int (nI (fm + r.length))), none] [.int (nd_b (decide (lN (lk_code l n) ∉ s))), .int (nI s.length), .ref 101] h 0 0 := by
    refine nd_iadd hC dX7_sees_110 ?_
    rw [se_un_cnt]
    refine mo_put_rowMany hC hw rfl dX7_sees_111 (fun h hw => ?_)
    refine nd_iconst hC (v := nI 0) (by rfl) dX7_sees_114 ?_
    refine nd_ireturn hC rfl (by first | rfl | exact nd_b_nar _) (by omega) (by omega) dX7_sees_115 ((hk _ _ _ h q1 q2 hw))
  first | with_reducible refine nd_if_eqB hC (tgt := 109) dX7_sees_102 (by decide) (fun hq => ?_) (fun hq => ?_) | with_reducible refine nd_if_eqN hC (tgt := 109) (by omega) dX7_sees_102 (by decide) (fun hq => ?_) (fun hq => ?_) | refine nd_if_eq hC (tgt := 109) dX7_sees_102 (by decide) (fun hq => ?_) (fun hq => ?_)
  · refine nd_iconst hC (v := nI 0) (by rfl) dX7_sees_109 ?_
    rw [hq] at J
    exact J
  · refine nd_iconst hC (v := nI 1) (by rfl) dX7_sees_105 ?_
    refine nd_goto hC (tgt := 110) dX7_sees_106 (by decide) ?_
    rw [hq] at J
    exact J
/-- .. of those that are so -/
theorem se_holding_ok (hg : nd_OK g) (hd : 6 ≤ d) {N : nk_N} (hNok : nk_ok N) (hfm : fm ≤ 5) (hN : mo_nap (A00 0) N) : mo_see g h0 d (nk_n N) fm (List Int64) (se_un (fun x => nk_holds N (mo_fr (A00 0)) (mo_bk (A00 0)) x.2 (fm + x.1.length)) (fun x => lN (lk_code x.2 (nk_n N)))) (fun s => s.length < tb_T) (iv_un 2 A00 F00 B00) := by
  intro s r l A F B h K hB hI hw hl hok hr hF hlen hk
  have e00 : A 0 = A00 0 := hI.1.1 0 rfl (by decide) (by decide)
  rw [← e00] at hN hk
  have e0 : A 0 1 = nI (nk_n N) := hN.2.1
  refine nd_enter hg (by decide) rfl (Nat.le_of_ble_eq_true rfl) (fun X hC => ?_)
  refine nd_aload_n hC dX7_sees_0 rfl rfl ?_
  refine mo_get_askedWhat hC hw rfl dX7_sees_1 ?_
  rw [hI.2.1]
  refine nd_tableIn hC (tgt := 116) dX7_sees_4 (by decide) (by decide) (by rfl) (by decide) ?_
  refine nd_aload_n hC dX7_sees_116 rfl rfl ?_
  refine nd_dup hC (by rfl) dX7_sees_117 ?_
  refine mo_get_rowMany hC hw rfl dX7_sees_118 ?_
  refine nd_aload_n hC dX7_sees_121 rfl rfl ?_
  refine nd_iload_n hC dX7_sees_122 rfl ?_
  rw [hI.2.2.1]
  refine mo_callV (As := [_]) (d2 := d - 1) hC hw rfl lkX7_352 lyX7_352 (Nat.le_of_ble_eq_true rfl) (by omega) rfl (by exact Nat.le_of_ble_eq_true rfl) (Nat.zero_le _) (Nat.zero_le _) dX7_sees_123 rfl ((sp_holdsAt hg (by omega) hw (by omega) hN hNok hl hok ?_))
  intro A1 h hs hw
  have e1 : ∀ k, k ≠ 21 → k ≠ 22 → A1 k = A k := hs
  first | with_reducible refine nd_if_eqB hC (tgt := 145) dX7_sees_126 (by decide) (fun hq => ?_) (fun hq => ?_) | with_reducible refine nd_if_eqN hC (tgt := 145) (by omega) dX7_sees_126 (by decide) (fun hq => ?_) (fun hq => ?_) | refine nd_if_eq hC (tgt := 145) dX7_sees_126 (by decide) (fun hq => ?_) (fun hq => ?_)
  · have es : (se_un (fun x => nk_holds N (mo_fr (A 0)) (mo_bk (A 0)) x.2 (fm + x.1.length)) (fun x => lN (lk_code x.2 (nk_n N))) s (r, l)) = (s, false) := by
      unfold se_un; simp only; rw [if_neg (by rw [hq]; decide)]
    rw [es] at hk
    refine nd_iconst hC (v := nI 0) (by rfl) dX7_sees_145 ?_
    first | with_reducible refine nd_iaddN hC dX7_sees_146 ?_ | refine nd_iadd hC dX7_sees_146 ?_
    refine mo_put_rowMany hC hw rfl dX7_sees_147 (fun h hw => ?_)
    refine nd_iconst hC (v := nI 0) (by rfl) dX7_sees_150 ?_
    obtain ⟨q1, q2⟩ := se_un_skip hI hs.fx (e1 36 (by decide) (by decide))
    refine nd_ireturn hC rfl (by first | rfl | exact nd_b_nar _) (by omega) (by omega) dX7_sees_151 ((hk A1 _ B h q1 q2 hw))
  · have es : (se_un (fun x => nk_holds N (mo_fr (A 0)) (mo_bk (A 0)) x.2 (fm + x.1.length)) (fun x => lN (lk_code x.2 (nk_n N))) s (r, l)) = (if lN (lk_code l (nk_n N)) ∈ s then s else lN (lk_code l (nk_n N)) :: s, false) := by
      unfold se_un; simp only; rw [if_pos hq]
    rw [es] at hk
    refine nd_aload_n hC dX7_sees_129 rfl rfl ?_
    refine nd_aload_n hC dX7_sees_130 rfl rfl ?_
    refine nd_iload_n hC dX7_sees_131 rfl ?_
    refine mo_callV (As := [_]) (d2 := d - 1) hC hw rfl lkX7_455 lyX7_455 (Nat.le_of_ble_eq_true rfl) (by omega) rfl (by exact Nat.le_of_ble_eq_true rfl) (Nat.zero_le _) (Nat.zero_le _) dX7_sees_132 rfl ((sp_lookAt hg (by omega) hw (by omega) (by rw [e1 0 (by decide) (by decide)]; exact e0) (by rw [e1 19 (by decide) (by decide)]; exact hl) hok hNok.1 ?_))
    intro f2 h hw
    refine mo_callV (As := [_]) (d2 := d - 1) hC hw rfl lkX7_459 lyX7_459 (Nat.le_of_ble_eq_true rfl) (by omega) rfl (by exact Nat.le_of_ble_eq_true rfl) (Nat.zero_le _) (Nat.zero_le _) dX7_sees_135 rfl ((sp_isNew hg hw (se_un_table hI (by rw [va_up_n A1 f2 (by decide)]; exact e1 36 (by decide) (by decide))) hB ?_))
    intro fa fb h htx ht hw
    obtain ⟨q1, q2⟩ := se_un_end hI (hs.fx.upA (k := 20) rfl f2) htx ht
    have J : nd_W g mX7_sees d 0 0 K X 146 [some (.ref 101), some (.int (nI (fm + r.length))), none] [.int (nd_b (decide (lN (lk_code l (nk_n N)) ∉ s))), .int (nI s.length), .ref 101] h 0 0 := by
      refine nd_iadd hC dX7_sees_146 ?_
      rw [se_un_cnt]
      refine mo_put_rowMany hC hw rfl dX7_sees_147 (fun h hw => ?_)
      refine nd_iconst hC (v := nI 0) (by rfl) dX7_sees_150 ?_
      refine nd_ireturn hC rfl (by first | rfl | exact nd_b_nar _) (by omega) (by omega) dX7_sees_151 ((hk _ _ _ h q1 q2 hw))
    first | with_reducible refine nd_if_eqB hC (tgt := 145) dX7_sees_138 (by decide) (fun hq => ?_) (fun hq => ?_) | with_reducible refine nd_if_eqN hC (tgt := 145) (by omega) dX7_sees_138 (by decide) (fun hq => ?_) (fun hq => ?_) | refine nd_if_eq hC (tgt := 145) dX7_sees_138 (by decide) (fun hq => ?_) (fun hq => ?_)
    · refine nd_iconst hC (v := nI 0) (by rfl) dX7_sees_145 ?_
      rw [hq] at J
      exact J
    · refine nd_iconst hC (v := nI 1) (by rfl) dX7_sees_141 ?_
      refine nd_goto hC (tgt := 146) dX7_sees_142 (by decide) ?_
      rw [hq] at J
      exact J
end MO14

