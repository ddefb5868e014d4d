set_option maxRecDepth 100000
/-! ===== the first that is so ===== -/
def se_fd (cond : lv_E → Bool) : Option (List Nat) → lv_E → Option (List Nat) × Bool := fun s x => if cond x = true then (some x.1, true) else (s, false)
/-- the row that is kept -/
def mo_kept (s : Option (List Nat)) (A : Nat → Nat → Int32) (F : Nat → Int32) : Prop := match s with
  | none => F 31 = -1 ∧ F 32 = nI 0
  | some r => r.length ≤ 5 ∧ F 31 = nI r.length ∧ F 32 = nI r.length ∧ mo_rw (A 26) r
def iv_fd (what : Nat) (A00 : Nat → Nat → Int32) (F00 : Nat → Int32) (B00 : Nat → Nat → Int64) (s : Option (List Nat)) (A : Nat → Nat → Int32) (F : Nat → Int32) (B : Nat → Nat → Int64) : Prop := mo_bs A00 F00 B00 A F B ∧ F 28 = nI what ∧ mo_kept s A F
/-! ===== all that are so, and the first of them ===== -/
def se_md (cond : lv_E → Bool) : Nat × Option (List Nat) → lv_E → (Nat × Option (List Nat)) × Bool := fun s x => if cond x = true then ((s.1 + 1, if s.1 = 0 then some x.1 else s.2), false) else (s, false)
def iv_md (A00 : Nat → Nat → Int32) (F00 : Nat → Int32) (B00 : Nat → Nat → Int64) (s : Nat × Option (List Nat)) (A : Nat → Nat → Int32) (F : Nat → Int32) (B : Nat → Nat → Int64) : Prop := mo_bs A00 F00 B00 A F B ∧ F 28 = nI 11 ∧ F 30 = nI s.1 ∧ mo_kept s.2 A F
/-! ===== the greatest, the first of like ones ===== -/
def se_bt (val : lv_E → Int32) : Int32 × List Nat → lv_E → (Int32 × List Nat) × Bool := fun s x => (if s.1 < val x then (val x, x.1) else s, false)
def iv_bt (what : Nat) (A00 : Nat → Nat → Int32) (F00 : Nat → Int32) (B00 : Nat → Nat → Int64) (s : Int32 × List Nat) (A : Nat → Nat → Int32) (F : Nat → Int32) (B : Nat → Nat → Int64) : Prop := mo_bs A00 F00 B00 A F B ∧ F 28 = nI what ∧ s.2.length ≤ 5 ∧ F 31 = s.1 ∧ F 32 = nI s.2.length ∧ mo_rw (A 26) s.2
section MO15
variable {g : nd_G} {h0 : nd_H} {A00 : Nat → Nat → Int32} {F00 : Nat → Int32} {B00 : Nat → Nat → Int64} {n fm d : Nat}
theorem se_better_ok (hg : nd_OK g) (hd : 7 ≤ d) {N : nk_N} (hNok : nk_ok N) (hfm : fm ≤ 5) (hN : mo_nap (A00 0) N) : mo_see g h0 d (nk_n N) fm (List Int64) (se_un (fun x => nk_better N (mo_fr (A00 0)) (mo_bk (A00 0)) x.2 (fm + x.1.length) (A00 27)) (fun x => lN (lk_code x.2 (nk_n N)))) (fun s => s.length < tb_T) (iv_un 7 A00 F00 B00) := by
  intro s r l A F B h K hB hI hw hl hok hr hF hlen hk
  have e00 : A 0 = A00 0 := hI.1.1 0 rfl (by decide) (by decide)
  have e27 : A 27 = A00 27 := hI.1.1 27 rfl (by decide) (by decide)
  rw [← e00] at hN hk
  rw [← e27] at hk
  have e0 : A 0 1 = nI (nk_n N) := hN.2.1
  refine nd_enter hg (by decide) rfl (Nat.le_of_ble_eq_true rfl) (fun X hC => ?_)
  refine nd_aload_n hC dX7_sees_0 rfl rfl ?_
  refine mo_get_askedWhat hC hw rfl dX7_sees_1 ?_
  rw [hI.2.1]
  refine nd_tableIn hC (tgt := 152) dX7_sees_4 (by decide) (by decide) (by rfl) (by decide) ?_
  refine nd_aload_n hC dX7_sees_152 rfl rfl ?_
  refine nd_dup hC (by rfl) dX7_sees_153 ?_
  refine mo_get_rowMany hC hw rfl dX7_sees_154 ?_
  refine nd_aload_n hC dX7_sees_157 rfl rfl ?_
  refine nd_iload_n hC dX7_sees_158 rfl ?_
  rw [hI.2.2.1]
  refine mo_callV (As := [_]) (d2 := d - 1) hC hw rfl lkX7_462 lyX7_462 (Nat.le_of_ble_eq_true rfl) (by omega) rfl (by exact Nat.le_of_ble_eq_true rfl) (Nat.zero_le _) (Nat.zero_le _) dX7_sees_159 rfl ((sp_isBetter hg (by omega) hw (by omega) hN hNok hl hok ?_))
  intro A1 h hs hw
  have e1 : ∀ k, k ≠ 21 → k ≠ 22 → A1 k = A k := hs
  first | with_reducible refine nd_if_eqB hC (tgt := 181) dX7_sees_162 (by decide) (fun hq => ?_) (fun hq => ?_) | with_reducible refine nd_if_eqN hC (tgt := 181) (by omega) dX7_sees_162 (by decide) (fun hq => ?_) (fun hq => ?_) | refine nd_if_eq hC (tgt := 181) dX7_sees_162 (by decide) (fun hq => ?_) (fun hq => ?_)
  · have es : (se_un (fun x => nk_better N (mo_fr (A 0)) (mo_bk (A 0)) x.2 (fm + x.1.length) (A 27)) (fun x => lN (lk_code x.2 (nk_n N))) s (r, l)) = (s, false) := by
      unfold se_un; simp only; rw [if_neg (by rw [hq]; decide)]
    rw [es] at hk
    refine nd_iconst hC (v := nI 0) (by rfl) dX7_sees_181 ?_
    first | with_reducible refine nd_iaddN hC dX7_sees_182 ?_ | refine nd_iadd hC dX7_sees_182 ?_
    refine mo_put_rowMany hC hw rfl dX7_sees_183 (fun h hw => ?_)
    refine nd_iconst hC (v := nI 0) (by rfl) dX7_sees_186 ?_
    obtain ⟨q1, q2⟩ := se_un_skip hI hs.fx (e1 36 (by decide) (by decide))
    refine nd_ireturn hC rfl (by first | rfl | exact nd_b_nar _) (by omega) (by omega) dX7_sees_187 ((hk A1 _ B h q1 q2 hw))
  · have es : (se_un (fun x => nk_better N (mo_fr (A 0)) (mo_bk (A 0)) x.2 (fm + x.1.length) (A 27)) (fun x => lN (lk_code x.2 (nk_n N))) s (r, l)) = (if lN (lk_code l (nk_n N)) ∈ s then s else lN (lk_code l (nk_n N)) :: s, false) := by
      unfold se_un; simp only; rw [if_pos hq]
    rw [es] at hk
    refine nd_aload_n hC dX7_sees_165 rfl rfl ?_
    refine nd_aload_n hC dX7_sees_166 rfl rfl ?_
    refine nd_iload_n hC dX7_sees_167 rfl ?_
    refine mo_callV (As := [_]) (d2 := d - 1) hC hw rfl lkX7_455 lyX7_455 (Nat.le_of_ble_eq_true rfl) (by omega) rfl (by exact Nat.le_of_ble_eq_true rfl) (Nat.zero_le _) (Nat.zero_le _) dX7_sees_168 rfl ((sp_lookAt hg (by omega) hw (by omega) (by rw [e1 0 (by decide) (by decide)]; exact e0) (by rw [e1 19 (by decide) (by decide)]; exact hl) hok hNok.1 ?_))
    intro f2 h hw
    refine mo_callV (As := [_]) (d2 := d - 1) hC hw rfl lkX7_459 lyX7_459 (Nat.le_of_ble_eq_true rfl) (by omega) rfl (by exact Nat.le_of_ble_eq_true rfl) (Nat.zero_le _) (Nat.zero_le _) dX7_sees_171 rfl ((sp_isNew hg hw (se_un_table hI (by rw [va_up_n A1 f2 (by decide)]; exact e1 36 (by decide) (by decide))) hB ?_))
    intro fa fb h htx ht hw
    obtain ⟨q1, q2⟩ := se_un_end hI (hs.fx.upA (k := 20) rfl f2) htx ht
    have J : nd_W g mX7_sees d 0 0 K X 182 [some (.ref 101), some (.int (nI (fm + r.length))), none] [.int (nd_b (decide (lN (lk_code l (nk_n N)) ∉ s))), .int (nI s.length), .ref 101] h 0 0 := by
      refine nd_iadd hC dX7_sees_182 ?_
      rw [se_un_cnt]
      refine mo_put_rowMany hC hw rfl dX7_sees_183 (fun h hw => ?_)
      refine nd_iconst hC (v := nI 0) (by rfl) dX7_sees_186 ?_
      refine nd_ireturn hC rfl (by first | rfl | exact nd_b_nar _) (by omega) (by omega) dX7_sees_187 ((hk _ _ _ h q1 q2 hw))
    first | with_reducible refine nd_if_eqB hC (tgt := 181) dX7_sees_174 (by decide) (fun hq => ?_) (fun hq => ?_) | with_reducible refine nd_if_eqN hC (tgt := 181) (by omega) dX7_sees_174 (by decide) (fun hq => ?_) (fun hq => ?_) | refine nd_if_eq hC (tgt := 181) dX7_sees_174 (by decide) (fun hq => ?_) (fun hq => ?_)
    · refine nd_iconst hC (v := nI 0) (by rfl) dX7_sees_181 ?_
      rw [hq] at J
      exact J
    · refine nd_iconst hC (v := nI 1) (by rfl) dX7_sees_177 ?_
      refine nd_goto hC (tgt := 182) dX7_sees_178 (by decide) ?_
      rw [hq] at J
      exact J
theorem se_simple_ok (hg : nd_OK g) (hd : 3 ≤ d) (hn : n ≤ 6) (hfm : fm ≤ 5) (hc0 : A00 0 1 = nI n) : mo_see g h0 d n fm (List Int64) (se_un (fun x => decide (x.2.length < 2)) (fun x => lN (lk_ord x.2 n))) (fun s => s.length < tb_T) (iv_un 10 A00 F00 B00) := by
  intro s r l A F B h K hB hI hw hl hok hr hF hlen hk
  have hwd := lk_width hok
  have e0 : A 0 1 = nI n := by rw [hI.1.1 0 rfl (by decide) (by decide)]; exact hc0
  refine nd_enter hg (by decide) rfl (Nat.le_of_ble_eq_true rfl) (fun X hC => ?_)
  refine nd_aload_n hC dX7_sees_0 rfl rfl ?_
  refine mo_get_askedWhat hC hw rfl dX7_sees_1 ?_
  rw [hI.2.1]
  refine nd_tableIn hC (tgt := 188) dX7_sees_4 (by decide) (by decide) (by rfl) (by decide) ?_
  refine nd_aload_n hC dX7_sees_188 rfl rfl ?_
  refine nd_dup hC (by rfl) dX7_sees_189 ?_
  refine mo_get_rowMany hC hw rfl dX7_sees_190 ?_
  refine nd_aload_n hC dX7_sees_193 rfl rfl ?_
  refine nd_iload_n hC dX7_sees_194 rfl ?_
  rw [hI.2.2.1]
  refine mo_callV (As := [_]) (d2 := d - 1) hC hw rfl lkX7_256 lyX7_256 (Nat.le_of_ble_eq_true rfl) (by omega) rfl (by exact Nat.le_of_ble_eq_true rfl) (Nat.zero_le _) (Nat.zero_le _) dX7_sees_195 rfl ((sp_columnsAt hg hw (by omega) ?_))
  rw [hl.1]
  refine nd_iconst hC (v := nI 2) (by rfl) dX7_sees_198 ?_
  first | with_reducible refine nd_icmp_geN hC (tgt := 218) (by omega) (by omega) dX7_sees_199 (by decide) (fun hq => ?_) (fun hq => ?_) | refine nd_icmp_ge hC (tgt := 218) dX7_sees_199 (by decide) (fun hq => ?_) (fun hq => ?_)
  · have es : (se_un (fun x => decide (x.2.length < 2)) (fun x => lN (lk_ord x.2 n)) s (r, l)) = (s, false) := by
      unfold se_un; simp only; rw [if_neg (by rw [decide_eq_false (by omega)]; decide)]
    rw [es] at hk
    refine nd_iconst hC (v := nI 0) (by rfl) dX7_sees_218 ?_
    first | with_reducible refine nd_iaddN hC dX7_sees_219 ?_ | refine nd_iadd hC dX7_sees_219 ?_
    refine mo_put_rowMany hC hw rfl dX7_sees_220 (fun h hw => ?_)
    refine nd_iconst hC (v := nI 0) (by rfl) dX7_sees_223 ?_
    obtain ⟨q1, q2⟩ := se_un_skip hI mo_fx.rfl rfl
    refine nd_ireturn hC rfl (by first | rfl | exact nd_b_nar _) (by omega) (by omega) dX7_sees_224 ((hk A _ B h q1 q2 hw))
  · have es : (se_un (fun x => decide (x.2.length < 2)) (fun x => lN (lk_ord x.2 n)) s (r, l)) = (if lN (lk_ord l n) ∈ s then s else lN (lk_ord l n) :: s, false) := by
      unfold se_un; simp only; rw [if_pos (decide_eq_true hq)]
    rw [es] at hk
    refine nd_aload_n hC dX7_sees_202 rfl rfl ?_
    refine nd_aload_n hC dX7_sees_203 rfl rfl ?_
    refine nd_iload_n hC dX7_sees_204 rfl ?_
    refine mo_callV (As := [_]) (d2 := d - 1) hC hw rfl lkX7_465 lyX7_465 (Nat.le_of_ble_eq_true rfl) (by omega) rfl (by exact Nat.le_of_ble_eq_true rfl) (Nat.zero_le _) (Nat.zero_le _) dX7_sees_205 rfl ((sp_orderAt hg (by omega) hw (by omega) e0 hl hok hn (by omega) ?_))
    refine mo_callV (As := [_]) (d2 := d - 1) hC hw rfl lkX7_459 lyX7_459 (Nat.le_of_ble_eq_true rfl) (by omega) rfl (by exact Nat.le_of_ble_eq_true rfl) (Nat.zero_le _) (Nat.zero_le _) dX7_sees_208 rfl ((sp_isNew hg hw (se_un_table hI rfl) hB ?_))
    intro fa fb h htx ht hw
    obtain ⟨q1, q2⟩ := se_un_end hI mo_fx.rfl htx ht
    have J : nd_W g mX7_sees d 0 0 K X 219 [some (.ref 101), some (.int (nI (fm + r.length))), none] [.int (nd_b (decide (lN (lk_ord l n) ∉ s))), .int (nI s.length), .ref 101] h 0 0 := by
      refine nd_iadd hC dX7_sees_219 ?_
      rw [se_un_cnt]
      refine mo_put_rowMany hC hw rfl dX7_sees_220 (fun h hw => ?_)
      refine nd_iconst hC (v := nI 0) (by rfl) dX7_sees_223 ?_
      refine nd_ireturn hC rfl (by first | rfl | exact nd_b_nar _) (by omega) (by omega) dX7_sees_224 ((hk _ _ _ h q1 q2 hw))
    first | with_reducible refine nd_if_eqB hC (tgt := 218) dX7_sees_211 (by decide) (fun hz => ?_) (fun hz => ?_) | with_reducible refine nd_if_eqN hC (tgt := 218) (by omega) dX7_sees_211 (by decide) (fun hz => ?_) (fun hz => ?_) | refine nd_if_eq hC (tgt := 218) dX7_sees_211 (by decide) (fun hz => ?_) (fun hz => ?_)
    · refine nd_iconst hC (v := nI 0) (by rfl) dX7_sees_218 ?_
      rw [hz] at J
      exact J
    · refine nd_iconst hC (v := nI 1) (by rfl) dX7_sees_214 ?_
      refine nd_goto hC (tgt := 219) dX7_sees_215 (by decide) ?_
      rw [hz] at J
      exact J
theorem se_patterns_ok (hg : nd_OK g) (hd : 4 ≤ d) (hn : n ≤ 6) (hfm : fm ≤ 5) (hc0 : A00 0 1 = nI n) : mo_see g h0 d n fm (List Int64) (se_un (fun _ => true) (fun x => lN (lk_crs x.2 (n - 1)))) (fun s => s.length < tb_T) (iv_un 12 A00 F00 B00) := by
  intro s r l A F B h K hB hI hw hl hok hr hF hlen hk
  have hk : ∀ A2 F2 B2 h2, iv_un 12 A00 F00 B00 (if lN (lk_crs l (n - 1)) ∈ s then s else lN (lk_crs l (n - 1)) :: s) A2 F2 B2 → mo_fx A A2 F F2 B B2 → mo_W h0 A2 F2 B2 h2 → K (.inl (some (.int (nI 0)))) h2 := hk
  have e0 : A 0 1 = nI n := by rw [hI.1.1 0 rfl (by decide) (by decide)]; exact hc0
  have hlt : lk_crs l (n - 1) < 2 ^ 31 := Nat.lt_of_lt_of_le (lk_crs_lt l (n - 1)) (by have : (3 : Nat) ^ (n - 1) ≤ 3 ^ 5 := Nat.pow_le_pow_right (by decide) (by omega); omega)
  refine nd_enter hg (by decide) rfl (Nat.le_of_ble_eq_true rfl) (fun X hC => ?_)
  refine nd_aload_n hC dX7_sees_0 rfl rfl ?_
  refine mo_get_askedWhat hC hw rfl dX7_sees_1 ?_
  rw [hI.2.1]
  refine nd_tableIn hC (tgt := 225) dX7_sees_4 (by decide) (by decide) (by rfl) (by decide) ?_
  refine nd_aload_n hC dX7_sees_225 rfl rfl ?_
  refine nd_dup hC (by rfl) dX7_sees_226 ?_
  refine mo_get_rowMany hC hw rfl dX7_sees_227 ?_
  refine nd_aload_n hC dX7_sees_230 rfl rfl ?_
  refine nd_aload_n hC dX7_sees_231 rfl rfl ?_
  refine nd_iload_n hC dX7_sees_232 rfl ?_
  rw [hI.2.2.1]
  refine mo_callV (As := [_]) (d2 := d - 1) hC hw rfl lkX7_468 lyX7_468 (Nat.le_of_ble_eq_true rfl) (by omega) rfl (by exact Nat.le_of_ble_eq_true rfl) (Nat.zero_le _) (Nat.zero_le _) dX7_sees_233 rfl ((sp_creasesAt hg (by omega) hw (by omega) e0 hl hok hn ?_))
  intro f2 h _ hw
  first | with_reducible refine nd_i2lN hC (by omega) dX7_sees_236 ?_ | refine nd_i2l hC dX7_sees_236 ?_
  refine mo_callV (As := [_]) (d2 := d - 1) hC hw rfl lkX7_459 lyX7_459 (Nat.le_of_ble_eq_true rfl) (by omega) rfl (by exact Nat.le_of_ble_eq_true rfl) (Nat.zero_le _) (Nat.zero_le _) dX7_sees_237 rfl ((sp_isNew hg hw (se_un_table hI (va_up_n A f2 (by decide))) hB ?_))
  intro fa fb h htx ht hw
  obtain ⟨q1, q2⟩ := se_un_end hI (mo_fx.rfl.upA (k := 20) rfl f2) htx ht
  have J : nd_W g mX7_sees d 0 0 K X 248 [some (.ref 101), some (.int (nI (fm + r.length))), none] [.int (nd_b (decide (lN (lk_crs l (n - 1)) ∉ s))), .int (nI s.length), .ref 101] h 0 0 := by
    refine nd_iadd hC dX7_sees_248 ?_
    rw [se_un_cnt]
    refine mo_put_rowMany hC hw rfl dX7_sees_249 (fun h hw => ?_)
    refine nd_iconst hC (v := nI 0) (by rfl) dX7_sees_252 ?_
    refine nd_ireturn hC rfl (by first | rfl | exact nd_b_nar _) (by omega) (by omega) dX7_sees_253 ((hk _ _ _ h q1 q2 hw))
  first | with_reducible refine nd_if_eqB hC (tgt := 247) dX7_sees_240 (by decide) (fun hq => ?_) (fun hq => ?_) | with_reducible refine nd_if_eqN hC (tgt := 247) (by omega) dX7_sees_240 (by decide) (fun hq => ?_) (fun hq => ?_) | refine nd_if_eq hC (tgt := 247) dX7_sees_240 (by decide) (fun hq => ?_) (fun hq => ?_)
  · refine nd_iconst hC (v := nI 0) (by rfl) dX7_sees_247 ?_
    rw [hq] at J
    exact J
  · refine nd_iconst hC (v := nI 1) (by rfl) dX7_sees_243 ?_
    refine nd_goto hC (tgt := 248) dX7_sees_244 (by decide) ?_
    rw [hq] at J
    exact J
theorem sp_found {K : nd_K} {h : nd_H} {A : Nat → Nat → Int32} {F : Nat → Int32} {B : Nat → Nat → Int64} (hg : nd_OK g) (hd : 1 ≤ d) (hw : mo_W h0 A F B h) {m : Nat} {b : Bool} (hF : F 29 = nI fm) (hm : m ≤ 5) (hfm : fm ≤ 5) (hk0 : b = false → K (.inl (some (.int (nI 0)))) h) (hk1 : b = true → ∀ f2 h2, (∀ i, i < m → f2 i = A 25 i) → mo_W h0 (va_up A 26 f2) (va_up (va_up F 31 (nI m)) 32 (nI m)) B h2 → K (.inl (some (.int (nI 1)))) h2) : nd_M g mX7_found d 0 0 [.ref 101, .int (nI (fm + m)), .int (nd_b b)] h K := by
  refine nd_enter hg (by decide) rfl (Nat.le_of_ble_eq_true rfl) (fun X hC => ?_)
  refine nd_iload_n hC dX7_found_0 rfl ?_
  first | with_reducible refine nd_if_eqB hC (tgt := 15) dX7_found_1 (by decide) (fun hc => ?_) (fun hc => ?_) | with_reducible refine nd_if_eqN hC (tgt := 15) (by omega) dX7_found_1 (by decide) (fun hc => ?_) (fun hc => ?_) | refine nd_if_eq hC (tgt := 15) dX7_found_1 (by decide) (fun hc => ?_) (fun hc => ?_)
  · subst hc
    refine nd_iload_n hC dX7_found_15 rfl ?_
    refine nd_ireturn hC rfl (by first | rfl | exact nd_b_nar _) (by omega) (by omega) dX7_found_16 ((hk0 rfl))
  · subst hc
    refine nd_aload_n hC dX7_found_4 rfl rfl ?_
    refine nd_iload_n hC dX7_found_5 rfl ?_
    refine nd_iload_n hC dX7_found_6 rfl ?_
    refine nd_aload_n hC dX7_found_7 rfl rfl ?_
    refine mo_get_from hC hw rfl dX7_found_8 ?_
    rw [hF]
    first | with_reducible refine nd_isubN hC (by omega) dX7_found_11 ?_ | refine nd_isub hC dX7_found_11 ?_
    rw [show fm + m - fm = m by omega]
    refine mo_callV (As := [_, _]) (d2 := d - 1) hC hw rfl lkX7_490 lyX7_490 (Nat.le_of_ble_eq_true rfl) (by omega) rfl (by exact Nat.le_of_ble_eq_true rfl) (Nat.zero_le _) (Nat.zero_le _) dX7_found_12 rfl ((sp_keepsRow hg hw hF hm hfm ?_))
    intro f2 h hf hw
    refine nd_iload_n hC dX7_found_15 rfl ?_
    refine nd_ireturn hC rfl (by first | rfl | exact nd_b_nar _) (by omega) (by omega) dX7_found_16 ((hk1 rfl f2 h hf hw))
theorem mo_kept_some {A1 : Nat → Nat → Int32} {F : Nat → Int32} {f2 : Nat → Int32} {r : List Nat} (hr : mo_rw (A1 25) r) (hl : r.length ≤ 5) (hf : ∀ i, i < r.length → f2 i = A1 25 i) : mo_kept (some r) (va_up A1 26 f2) (va_up (va_up F 31 (nI r.length)) 32 (nI r.length)) := by
  refine ⟨hl, rfl, rfl, fun i hi => ?_⟩
  rw [va_up_s, hf i hi]; exact hr i hi
/-- the end of each of them -/
theorem se_fd_end {what : Nat} {s : Option (List Nat)} {cond : lv_E → Bool} {r : List Nat} {l : List (List Nat)} {A A1 : Nat → Nat → Int32} {F : Nat → Int32} {B : Nat → Nat → Int64} {K : nd_K} {h : nd_H} (hg : nd_OK g) (hd : 1 ≤ d) (hfm : fm ≤ 5) (hI : iv_fd what A00 F00 B00 s A F B) (hs : mo_s2 A A1) (hw : mo_W h0 A1 F B h) (hr : mo_rw (A 25) r) (hF : F 29 = nI fm) (hlen : r.length ≤ 5) (hk : ∀ A2 F2 B2 h2, iv_fd what A00 F00 B00 (se_fd cond s (r, l)).1 A2 F2 B2 → mo_fx A A2 F F2 B B2 → mo_W h0 A2 F2 B2 h2 → K (.inl (some (.int (nd_b (se_fd cond s (r, l)).2)))) h2) : nd_M g mX7_found d 0 0 [.ref 101, .int (nI (fm + r.length)), .int (nd_b (cond (r, l)))] h K := by
  refine sp_found hg hd hw hF hlen hfm (fun q => ?_) (fun q => ?_)
  · have es : se_fd cond s (r, l) = (s, false) := by unfold se_fd; rw [if_neg (by rw [q]; decide)]
    rw [es] at hk
    refine hk A1 F B h ⟨hI.1.fx hs.fx, hI.2.1, ?_⟩ hs.fx hw
    have q3 := hI.2.2
    unfold mo_kept at q3 ⊢
    rw [hs 26 (by decide) (by decide)]
    exact q3
  · have es : se_fd cond s (r, l) = (some r, true) := by unfold se_fd; rw [if_pos q]
    rw [es] at hk
    intro f2 h2 hf hw
    have q2 := ((hs.fx (F := F) (B := B)).upA (k := 26) rfl f2).upF (k := 31) rfl (nI r.length) |>.upF (k := 32) rfl (nI r.length)
    exact hk _ _ _ h2 ⟨hI.1.fx q2, hI.2.1, mo_kept_some (by rw [hs 25 (by decide) (by decide)]; exact hr) hlen hf⟩ q2 hw
theorem se_reads_ok (hg : nd_OK g) (hd : 4 ≤ d) (hn : n ≤ 6) (hfm : fm ≤ 5) {t : Nat} {v : List Int64} (ht : t < 4) (hv : mo_tr A00 B00 t v) (hF33 : F00 33 = nI t) : mo_see g h0 d n fm (Option (List Nat)) (se_fd (fun x => lk_reads (mo_fr (A00 0)) (mo_bk (A00 0)) x.2 v)) (fun _ => True) (iv_fd 4 A00 F00 B00) := by
  intro s r l A F B h K hB hI hw hl hok hr hF hlen hk
  have e00 : A 0 = A00 0 := hI.1.1 0 rfl (by decide) (by decide)
  have hv2 : mo_tr A B t v := by unfold mo_tr; rw [hI.1.1 41 rfl (by decide) (by decide), hI.1.2.2 42 (by decide)]; exact hv
  have h33 : F 33 = nI t := by rw [hI.1.2.1 33 rfl]; exact hF33
  rw [← e00] at hk
  refine nd_enter hg (by decide) rfl (Nat.le_of_ble_eq_true rfl) (fun X hC => ?_)
  refine nd_aload_n hC dX7_sees_0 rfl rfl ?_
  refine mo_get_askedWhat hC hw rfl dX7_sees_1 ?_
  rw [hI.2.1]
  refine nd_tableIn hC (tgt := 279) dX7_sees_4 (by decide) (by decide) (by rfl) (by decide) ?_
  refine nd_aload_n hC dX7_sees_279 rfl rfl ?_
  refine nd_iload_n hC dX7_sees_280 rfl ?_
  refine nd_aload_n hC dX7_sees_281 rfl rfl ?_
  refine nd_iload_n hC dX7_sees_282 rfl ?_
  refine nd_aload_n hC dX7_sees_283 rfl rfl ?_
  refine mo_get_askedTray hC hw rfl dX7_sees_284 ?_
  rw [h33]
  refine mo_callV (As := [_, _]) (d2 := d - 1) hC hw rfl lkX7_471 lyX7_471 (Nat.le_of_ble_eq_true rfl) (by omega) rfl (by exact Nat.le_of_ble_eq_true rfl) (Nat.zero_le _) (Nat.zero_le _) dX7_sees_287 rfl ((sp_looksSo hg (by omega) hw (by omega) ht hv2 hl hok hn ?_))
  refine mo_callV (As := [_, _]) (d2 := d - 1) hC hw rfl lkX7_480 lyX7_480 (Nat.le_of_ble_eq_true rfl) (by omega) rfl (by exact Nat.le_of_ble_eq_true rfl) (Nat.zero_le _) (Nat.zero_le _) dX7_sees_290 rfl ((se_fd_end (cond := fun x => lk_reads (mo_fr (A 0)) (mo_bk (A 0)) x.2 v) (l := l) hg (by omega) hfm hI mo_s2.rfl hw hr hF hlen ?_))
  intro A2 F2 B2 h2 q1 q2 hw
  refine nd_ireturn hC rfl (by first | rfl | exact nd_b_nar _) (by omega) (by omega) dX7_sees_293 ((hk A2 F2 B2 h2 q1 q2 hw))
theorem se_soonest_ok (hg : nd_OK g) (hd : 6 ≤ d) {N : nk_N} (hNok : nk_ok N) (hfm : fm ≤ 5) (hN : mo_nap (A00 0) N) : mo_see g h0 d (nk_n N) fm (Option (List Nat)) (se_fd (fun x => nk_holds N (mo_fr (A00 0)) (mo_bk (A00 0)) x.2 (fm + x.1.length))) (fun _ => True) (iv_fd 5 A00 F00 B00) := by
  intro s r l A F B h K hB hI hw hl hok hr hF hlen hk
  have e00 : A 0 = A00 0 := hI.1.1 0 rfl (by decide) (by decide)
  rw [← e00] at hN hk
  refine nd_enter hg (by decide) rfl (Nat.le_of_ble_eq_true rfl) (fun X hC => ?_)
  refine nd_aload_n hC dX7_sees_0 rfl rfl ?_
  refine mo_get_askedWhat hC hw rfl dX7_sees_1 ?_
  rw [hI.2.1]
  refine nd_tableIn hC (tgt := 294) dX7_sees_4 (by decide) (by decide) (by rfl) (by decide) ?_
  refine nd_aload_n hC dX7_sees_294 rfl rfl ?_
  refine nd_iload_n hC dX7_sees_295 rfl ?_
  refine nd_aload_n hC dX7_sees_296 rfl rfl ?_
  refine nd_iload_n hC dX7_sees_297 rfl ?_
  refine mo_callV (As := [_]) (d2 := d - 1) hC hw rfl lkX7_352 lyX7_352 (Nat.le_of_ble_eq_true rfl) (by omega) rfl (by exact Nat.le_of_ble_eq_true rfl) (Nat.zero_le _) (Nat.zero_le _) dX7_sees_298 rfl ((sp_holdsAt hg (by omega) hw (by omega) hN hNok hl hok ?_))
  intro A1 h hs hw
  refine mo_callV (As := [_, _]) (d2 := d - 1) hC hw rfl lkX7_480 lyX7_480 (Nat.le_of_ble_eq_true rfl) (by omega) rfl (by exact Nat.le_of_ble_eq_true rfl) (Nat.zero_le _) (Nat.zero_le _) dX7_sees_301 rfl ((se_fd_end (cond := fun x => nk_holds N (mo_fr (A 0)) (mo_bk (A 0)) x.2 (fm + x.1.length)) (l := l) hg (by omega) hfm hI hs hw hr hF hlen ?_))
  intro A2 F2 B2 h2 q1 q2 hw
  refine nd_ireturn hC rfl (by first | rfl | exact nd_b_nar _) (by omega) (by omega) dX7_sees_304 ((hk A2 F2 B2 h2 q1 q2 hw))
theorem se_stacked_ok (hg : nd_OK g) (hd : 4 ≤ d) (hn : n ≤ 6) (hfm : fm ≤ 5) {t : Nat} {v : List Int64} (ht : t < 4) (hv : mo_tr A00 B00 t v) (hvn : v.length = n) (hc0 : A00 0 1 = nI n) (hF33 : F00 33 = nI t) : mo_see g h0 d n fm (Option (List Nat)) (se_fd (fun x => lk_stack n x.2 v)) (fun _ => True) (iv_fd 9 A00 F00 B00) := by
  intro s r l A F B h K hB hI hw hl hok hr hF hlen hk
  have e0 : A 0 1 = nI n := by rw [hI.1.1 0 rfl (by decide) (by decide)]; exact hc0
  have hv2 : mo_tr A B t v := by unfold mo_tr; rw [hI.1.1 41 rfl (by decide) (by decide), hI.1.2.2 42 (by decide)]; exact hv
  have h33 : F 33 = nI t := by rw [hI.1.2.1 33 rfl]; exact hF33
  refine nd_enter hg (by decide) rfl (Nat.le_of_ble_eq_true rfl) (fun X hC => ?_)
  refine nd_aload_n hC dX7_sees_0 rfl rfl ?_
  refine mo_get_askedWhat hC hw rfl dX7_sees_1 ?_
  rw [hI.2.1]
  refine nd_tableIn hC (tgt := 305) dX7_sees_4 (by decide) (by decide) (by rfl) (by decide) ?_
  refine nd_aload_n hC dX7_sees_305 rfl rfl ?_
  refine nd_iload_n hC dX7_sees_306 rfl ?_
  refine nd_aload_n hC dX7_sees_307 rfl rfl ?_
  refine nd_iload_n hC dX7_sees_308 rfl ?_
  refine nd_aload_n hC dX7_sees_309 rfl rfl ?_
  refine mo_get_askedTray hC hw rfl dX7_sees_310 ?_
  rw [h33]
  refine mo_callV (As := [_, _]) (d2 := d - 1) hC hw rfl lkX7_484 lyX7_484 (Nat.le_of_ble_eq_true rfl) (by omega) rfl (by exact Nat.le_of_ble_eq_true rfl) (Nat.zero_le _) (Nat.zero_le _) dX7_sees_313 rfl ((sp_isStack hg (by omega) hw (by omega) ht hv2 hvn e0 hl hok hn ?_))
  refine mo_callV (As := [_, _]) (d2 := d - 1) hC hw rfl lkX7_480 lyX7_480 (Nat.le_of_ble_eq_true rfl) (by omega) rfl (by exact Nat.le_of_ble_eq_true rfl) (Nat.zero_le _) (Nat.zero_le _) dX7_sees_316 rfl ((se_fd_end (cond := fun x => lk_stack n x.2 v) (l := l) hg (by omega) hfm hI mo_s2.rfl hw hr hF hlen ?_))
  intro A2 F2 B2 h2 q1 q2 hw
  refine nd_ireturn hC rfl (by first | rfl | exact nd_b_nar _) (by omega) (by omega) dX7_sees_319 ((hk A2 F2 B2 h2 q1 q2 hw))
end MO15

