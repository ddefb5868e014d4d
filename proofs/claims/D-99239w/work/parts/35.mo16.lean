set_option maxRecDepth 100000
noncomputable def se_sn (fr bk : Nat → Int32) (n : Nat) (v : List Int64) : Nat × Int32 × (Nat → Int32) → lv_E → (Nat × Int32 × (Nat → Int32)) × Bool := fun s x => if lk_reads fr bk x.2 v = true then ((s.1 + 1, sn_sure x.2 s.2.1 (n - 1), sn_bh fr bk x.2 s.2.2 x.2.length), false) else (s, false)
def iv_sn (A00 : Nat → Nat → Int32) (F00 : Nat → Int32) (B00 : Nat → Nat → Int64) (s : Nat × Int32 × (Nat → Int32)) (A : Nat → Nat → Int32) (F : Nat → Int32) (B : Nat → Nat → Int64) : Prop := mo_bs A00 F00 B00 A F B ∧ F 28 = nI 13 ∧ F 30 = nI s.1 ∧ F 34 = s.2.1 ∧ A 39 = s.2.2
section MO16
variable {g : nd_G} {h0 : nd_H} {A00 : Nat → Nat → Int32} {F00 : Nat → Int32} {B00 : Nat → Nat → Int64} {n fm d : Nat}
theorem sp_seesMade {K : nd_K} {h : nd_H} {A : Nat → Nat → Int32} {F : Nat → Int32} {B : Nat → Nat → Int64} (hg : nd_OK g) (hd : 4 ≤ d) (hn : n ≤ 6) (hfm : fm ≤ 5) {t : Nat} {v : List Int64} {s : Nat × Option (List Nat)} {r : List Nat} {l : List (List Nat)} (ht : t < 4) (hv : mo_tr A00 B00 t v) (hvn : v.length = n - 1) (hF33 : F00 33 = nI t) (hB : s.1 < 2 ^ 30) (hI : iv_md A00 F00 B00 s A F B) (hw : mo_W h0 A F B h) (hl : mo_lk (A 19) (fm + r.length) l) (hok : lk_ok n l) (hr : mo_rw (A 25) r) (hF : F 29 = nI fm) (hlen : r.length ≤ 5)
    (hk : ∀ A2 F2 B2 h2, iv_md A00 F00 B00 (se_md (fun x => lk_made x.2 v) s (r, l)).1 A2 F2 B2 → mo_fx A A2 F F2 B B2 → mo_W h0 A2 F2 B2 h2 → K (.inl (some (.int (nI 0)))) h2) : nd_M g mX7_seesMade d 0 0 [.ref 101, .int (nI (fm + r.length))] h K := by
  have hv2 : mo_tr A B t v := by unfold mo_tr; rw [hI.1.1 41 rfl (by decide) (by decide), hI.1.2.2 42 (by decide)]; exact hv
  have h33 : F 33 = nI t := by rw [hI.1.2.1 33 rfl]; exact hF33
  refine nd_enter hg (by decide) rfl (Nat.le_of_ble_eq_true rfl) (fun X hC => ?_)
  refine nd_aload_n hC dX7_seesMade_0 rfl rfl ?_
  refine nd_iload_n hC dX7_seesMade_1 rfl ?_
  refine nd_aload_n hC dX7_seesMade_2 rfl rfl ?_
  refine mo_get_askedTray hC hw rfl dX7_seesMade_3 ?_
  rw [h33]
  refine mo_callV (As := [_, _]) (d2 := d - 1) hC hw rfl lkX7_493 lyX7_493 (Nat.le_of_ble_eq_true rfl) (by omega) rfl (by exact Nat.le_of_ble_eq_true rfl) (Nat.zero_le _) (Nat.zero_le _) dX7_seesMade_6 rfl ((sp_hasCreases hg (by omega) hw (by omega) ht hv2 hvn hl hok hn ?_))
  intro f2 h hw
  have hfx : mo_fx A (va_up A 20 f2) F F B B := mo_fx.rfl.upA (k := 20) rfl f2
  have e25 : (va_up A 20 f2) 25 = A 25 := va_up_n A f2 (by decide)
  have e26 : (va_up A 20 f2) 26 = A 26 := va_up_n A f2 (by decide)
  generalize va_up A 20 f2 = A1 at *
  first | with_reducible refine nd_if_neB hC (tgt := 14) dX7_seesMade_9 (by decide) (fun hq => ?_) (fun hq => ?_) | with_reducible refine nd_if_neN hC (tgt := 14) (by omega) dX7_seesMade_9 (by decide) (fun hq => ?_) (fun hq => ?_) | refine nd_if_ne hC (tgt := 14) dX7_seesMade_9 (by decide) (fun hq => ?_) (fun hq => ?_)
  · have es : se_md (fun x => lk_made x.2 v) s (r, l) = ((s.1 + 1, if s.1 = 0 then some r else s.2), false) := by unfold se_md; simp only; rw [if_pos hq]
    rw [es] at hk
    have J : ∀ A2 F2 h2, mo_fx A A2 F F2 B B → F2 28 = nI 11 → F2 30 = nI s.1 → mo_kept (if s.1 = 0 then some r else s.2) A2 F2 → mo_W h0 A2 F2 B h2 → nd_W g mX7_seesMade d 0 0 K X 32 [some (.ref 101), some (.int (nI (fm + r.length)))] [] h2 0 0 := by
      intro A2 F2 h q1 q2 q3 q4 hw
      refine nd_aload_n hC dX7_seesMade_32 rfl rfl ?_
      refine nd_dup hC (by rfl) dX7_seesMade_33 ?_
      refine mo_get_rowMany hC hw rfl dX7_seesMade_34 ?_
      rw [q3]
      refine nd_iconst hC (v := nI 1) (by rfl) dX7_seesMade_37 ?_
      first | with_reducible refine nd_iaddN hC dX7_seesMade_38 ?_ | refine nd_iadd hC dX7_seesMade_38 ?_
      refine mo_put_rowMany hC hw rfl dX7_seesMade_39 (fun h hw => ?_)
      refine nd_iconst hC (v := nI 0) (by rfl) dX7_seesMade_42 ?_
      refine nd_ireturn hC rfl (by rfl) (by omega) (by omega) dX7_seesMade_43 (hk A2 _ B h ⟨hI.1.fx (q1.upF (k := 30) rfl _), q2, rfl, ?_⟩ (q1.upF (k := 30) rfl _) hw)
      unfold mo_kept at q4 ⊢
      exact q4
    refine nd_aload_n hC dX7_seesMade_14 rfl rfl ?_
    refine mo_get_rowMany hC hw rfl dX7_seesMade_15 ?_
    rw [hI.2.2.1]
    first | with_reducible refine nd_if_neB hC (tgt := 32) dX7_seesMade_18 (by decide) (fun hz => ?_) (fun hz => ?_) | with_reducible refine nd_if_neN hC (tgt := 32) (by omega) dX7_seesMade_18 (by decide) (fun hz => ?_) (fun hz => ?_) | refine nd_if_ne hC (tgt := 32) dX7_seesMade_18 (by decide) (fun hz => ?_) (fun hz => ?_)
    · refine J A1 F h hfx hI.2.1 hI.2.2.1 ?_ hw
      rw [if_neg hz]
      have q := hI.2.2.2
      unfold mo_kept at q ⊢
      rw [e26]; exact q
    · refine nd_aload_n hC dX7_seesMade_21 rfl rfl ?_
      refine nd_iload_n hC dX7_seesMade_22 rfl ?_
      refine nd_iload_n hC dX7_seesMade_23 rfl ?_
      refine nd_aload_n hC dX7_seesMade_24 rfl rfl ?_
      refine mo_get_from hC hw rfl dX7_seesMade_25 ?_
      rw [hF]
      first | with_reducible refine nd_isubN hC (by omega) dX7_seesMade_28 ?_ | refine nd_isub hC dX7_seesMade_28 ?_
      rw [show fm + r.length - fm = r.length by omega]
      refine mo_callV (As := [_, _]) (d2 := d - 1) hC hw rfl lkX7_490 lyX7_490 (Nat.le_of_ble_eq_true rfl) (by omega) rfl (by exact Nat.le_of_ble_eq_true rfl) (Nat.zero_le _) (Nat.zero_le _) dX7_seesMade_29 rfl ((sp_keepsRow hg hw hF hlen hfm ?_))
      intro f3 h hf hw
      refine J _ _ h (((hfx.upA (k := 26) rfl f3).upF (k := 31) rfl (nI r.length)).upF (k := 32) rfl (nI r.length)) hI.2.1 hI.2.2.1 ?_ hw
      rw [if_pos hz]
      exact mo_kept_some (by rw [e25]; exact hr) hlen hf
  · have es : se_md (fun x => lk_made x.2 v) s (r, l) = (s, false) := by unfold se_md; simp only; rw [if_neg (by rw [hq]; decide)]
    rw [es] at hk
    refine nd_iconst hC (v := nI 0) (by rfl) dX7_seesMade_12 ?_
    refine nd_ireturn hC rfl (by rfl) (by omega) (by omega) dX7_seesMade_13 (hk A1 F B h ⟨hI.1.fx hfx, hI.2.1, hI.2.2.1, ?_⟩ hfx hw)
    have q := hI.2.2.2
    unfold mo_kept at q ⊢
    rw [e26]; exact q
theorem se_made_ok (hg : nd_OK g) (hd : 5 ≤ d) (hn : n ≤ 6) (hfm : fm ≤ 5) {t : Nat} {v : List Int64} (ht : t < 4) (hv : mo_tr A00 B00 t v) (hvn : v.length = n - 1) (hF33 : F00 33 = nI t) : mo_see g h0 d n fm (Nat × Option (List Nat)) (se_md (fun x => lk_made x.2 v)) (fun s => s.1 < 2 ^ 30) (iv_md A00 F00 B00) := by
  intro s r l A F B h K hB hI hw hl hok hr hF hlen hk
  have e2 : (se_md (fun x => lk_made x.2 v) s (r, l)).2 = false := by unfold se_md; split <;> rfl
  rw [e2] at hk
  refine nd_enter hg (by decide) rfl (Nat.le_of_ble_eq_true rfl) (fun X hC => ?_)
  refine nd_aload_n hC dX7_sees_0 rfl rfl ?_
  refine mo_get_askedWhat hC hw rfl dX7_sees_1 ?_
  rw [hI.2.1]
  refine nd_tableIn hC (tgt := 273) dX7_sees_4 (by decide) (by decide) (by rfl) (by decide) ?_
  refine nd_aload_n hC dX7_sees_273 rfl rfl ?_
  refine nd_iload_n hC dX7_sees_274 rfl ?_
  refine mo_callV (As := [_]) (d2 := d - 1) hC hw rfl lkX7_477 lyX7_477 (Nat.le_of_ble_eq_true rfl) (by omega) rfl (by exact Nat.le_of_ble_eq_true rfl) (Nat.zero_le _) (Nat.zero_le _) dX7_sees_275 rfl ((sp_seesMade hg (by omega) hn hfm ht hv hvn hF33 hB hI hw hl hok hr hF hlen ?_))
  intro A2 F2 B2 h q1 q2 hw
  refine nd_ireturn hC rfl (by first | rfl | exact nd_b_nar _) (by omega) (by omega) dX7_sees_278 ((hk A2 F2 B2 h q1 q2 hw))
/-- the end of each of them -/
theorem se_bt_ok (hg : nd_OK g) (hd : 2 ≤ d) (hfm : fm ≤ 5) {what : Nat} (hwh : what = 3 ∨ what = 6 ∨ what = 8) {val : lv_E → Int32} (hV : ∀ (d2 : Nat) (r : List Nat) (l : List (List Nat)) (A : Nat → Nat → Int32) (F : Nat → Int32) (B : Nat → Nat → Int64) (h : nd_H) (K : nd_K), d - 1 ≤ d2 → mo_bs A00 F00 B00 A F B → F 28 = nI what → mo_W h0 A F B h → mo_lk (A 19) (fm + r.length) l → lk_ok n l → r.length ≤ 5 → (∀ A2 h2, mo_s2 A A2 → mo_W h0 A2 F B h2 → K (.inl (some (.int (val (r, l))))) h2) → nd_M g mX7_worthAsked d2 0 0 [.ref 101, .int (nI (fm + r.length))] h K) : mo_see g h0 d n fm (Int32 × List Nat) (se_bt val) (fun _ => True) (iv_bt what A00 F00 B00) := by
  intro s r l A F B h K hB hI hw hl hok hr hF hlen hk
  have key : ∀ x y : Int32, (¬ x < y) ↔ y ≤ x := fun x y => by rw [Int32.lt_iff_toInt_lt, Int32.le_iff_toInt_le]; omega
  refine nd_enter hg (by decide) rfl (Nat.le_of_ble_eq_true rfl) (fun X hC => ?_)
  have J : nd_W g mX7_sees d 0 0 K X 320 [some (.ref 101), some (.int (nI (fm + r.length))), none] [] h 0 0 := by
    refine nd_aload_n hC dX7_sees_320 rfl rfl ?_
    refine nd_iload_n hC dX7_sees_321 rfl ?_
    refine mo_callV (As := [_]) (d2 := d - 1) hC hw rfl lkX7_487 lyX7_487 (Nat.le_of_ble_eq_true rfl) (by omega) rfl (by exact Nat.le_of_ble_eq_true rfl) (Nat.zero_le _) (Nat.zero_le _) dX7_sees_322 rfl ((hV (d - 1) r l A F B h _ (by omega) hI.1 hI.2.1 hw hl hok hlen ?_))
    intro A1 h hs hw
    refine nd_istore_n hC dX7_sees_325 (Nat.le_of_ble_eq_true rfl) ?_
    refine nd_iload_n hC dX7_sees_326 rfl ?_
    refine nd_aload_n hC dX7_sees_327 rfl rfl ?_
    refine mo_get_rowBest hC hw rfl dX7_sees_328 ?_
    rw [hI.2.2.2.1]
    refine nd_icmp_le hC (tgt := 340) dX7_sees_331 (by decide) (fun hc => ?_) (fun hc => ?_)
    · have es : se_bt val s (r, l) = (s, false) := by unfold se_bt; rw [if_neg ((key _ _).mpr hc)]
      rw [es] at hk
      refine nd_iconst hC (v := nI 0) (by rfl) dX7_sees_340 ?_
      refine nd_ireturn hC rfl (by first | rfl | exact nd_b_nar _) (by omega) (by omega) dX7_sees_341 ((hk A1 F B h ⟨hI.1.fx hs.fx, hI.2.1, hI.2.2.1, hI.2.2.2.1, hI.2.2.2.2.1, by rw [hs 26 (by decide) (by decide)]; exact hI.2.2.2.2.2⟩ hs.fx hw))
    · have es : se_bt val s (r, l) = ((val (r, l), r), false) := by unfold se_bt; rw [if_pos (Decidable.of_not_not (fun z => hc ((key _ _).mp z)))]
      rw [es] at hk
      refine nd_aload_n hC dX7_sees_334 rfl rfl ?_
      refine nd_iload_n hC dX7_sees_335 rfl ?_
      refine nd_iload_n hC dX7_sees_336 rfl ?_
      refine mo_callV (As := [_, _]) (d2 := d - 1) hC hw rfl lkX7_490 lyX7_490 (Nat.le_of_ble_eq_true rfl) (by omega) rfl (by exact Nat.le_of_ble_eq_true rfl) (Nat.zero_le _) (Nat.zero_le _) dX7_sees_337 rfl ((sp_keepsRow hg hw hF hlen hfm ?_))
      intro f3 h hf hw
      have q2 := (((hs.fx (F := F) (B := B)).upA (k := 26) rfl f3).upF (k := 31) rfl (val (r, l))).upF (k := 32) rfl (nI r.length)
      refine nd_iconst hC (v := nI 0) (by rfl) dX7_sees_340 ?_
      refine nd_ireturn hC rfl (by first | rfl | exact nd_b_nar _) (by omega) (by omega) dX7_sees_341 ((hk _ _ _ h ⟨hI.1.fx q2, hI.2.1, hlen, rfl, rfl, fun i hi => by rw [va_up_s, hf i hi, hs 25 (by decide) (by decide)]; exact hr i hi⟩ q2 hw))
  refine nd_aload_n hC dX7_sees_0 rfl rfl ?_
  refine mo_get_askedWhat hC hw rfl dX7_sees_1 ?_
  rw [hI.2.1]
  rcases hwh with e | e | e <;> subst e
  · exact nd_tableIn hC (tgt := 320) dX7_sees_4 (by decide) (by decide) (by rfl) (by decide) J
  · exact nd_tableIn hC (tgt := 320) dX7_sees_4 (by decide) (by decide) (by rfl) (by decide) J
  · exact nd_tableIn hC (tgt := 320) dX7_sees_4 (by decide) (by decide) (by rfl) (by decide) J
theorem se_best_ok (hg : nd_OK g) (hd : 8 ≤ d) {N : nk_N} (hNok : nk_ok N) (hfm : fm ≤ 5) (hN : mo_nap (A00 0) N) : mo_see g h0 d (nk_n N) fm (Int32 × List Nat) (se_bt (fun x => nk_worth N (mo_fr (A00 0)) (mo_bk (A00 0)) x.2 (fm + x.1.length))) (fun _ => True) (iv_bt 3 A00 F00 B00) := by
  refine se_bt_ok hg (by omega) hfm (Or.inl rfl) ?_
  intro d r l A F B h K hd2 hbs h28 hw hl hok hlen hk
  have e00 : A 0 = A00 0 := hbs.1 0 rfl (by decide) (by decide)
  rw [← e00] at hk hN
  refine nd_enter hg (by decide) rfl (Nat.le_of_ble_eq_true rfl) (fun X hC => ?_)
  refine nd_aload_n hC dX7_worthAsked_0 rfl rfl ?_
  refine mo_get_askedWhat hC hw rfl dX7_worthAsked_1 ?_
  refine nd_iconst hC (v := nI 3) (by rfl) dX7_worthAsked_4 ?_
  rw [h28]
  first | with_reducible refine nd_icmp_neN hC (tgt := 16) (by omega) (by omega) dX7_worthAsked_5 (by decide) (fun hc => ?_) (fun hc => ?_) | refine nd_icmp_ne hC (tgt := 16) dX7_worthAsked_5 (by decide) (fun hc => ?_) (fun hc => ?_)
  · omega
  refine nd_aload_n hC dX7_worthAsked_8 rfl rfl ?_
  refine nd_iload_n hC dX7_worthAsked_9 rfl ?_
  refine mo_callV (As := [_]) (d2 := d - 1) hC hw rfl lkX7_349 lyX7_349 (Nat.le_of_ble_eq_true rfl) (by omega) rfl (by exact Nat.le_of_ble_eq_true rfl) (Nat.zero_le _) (Nat.zero_le _) dX7_worthAsked_10 rfl ((sp_worthAt hg (by omega) hw (by omega) hN hNok hl hok ?_))
  intro A1 h hs hw
  refine nd_goto hC (tgt := 42) dX7_worthAsked_13 (by decide) ?_
  refine nd_ireturn hC rfl (by first | rfl | exact nd_b_nar _) (by omega) (by omega) dX7_worthAsked_42 ((hk A1 h hs hw))
theorem se_fairest_ok (hg : nd_OK g) (hd : 8 ≤ d) {N : nk_N} (hNok : nk_ok N) (hfm : fm ≤ 5) (hN : mo_nap (A00 0) N) : mo_see g h0 d (nk_n N) fm (Int32 × List Nat) (se_bt (fun x => nk_least N (mo_fr (A00 0)) (mo_bk (A00 0)) x.2 (fm + x.1.length) (if (nk_w N).length = 0 then nI 0 else nI 536870912) (nk_w N).length)) (fun _ => True) (iv_bt 6 A00 F00 B00) := by
  refine se_bt_ok hg (by omega) hfm (Or.inr (Or.inl rfl)) ?_
  intro d r l A F B h K hd2 hbs h28 hw hl hok hlen hk
  have e00 : A 0 = A00 0 := hbs.1 0 rfl (by decide) (by decide)
  rw [← e00] at hk hN
  refine nd_enter hg (by decide) rfl (Nat.le_of_ble_eq_true rfl) (fun X hC => ?_)
  refine nd_aload_n hC dX7_worthAsked_0 rfl rfl ?_
  refine mo_get_askedWhat hC hw rfl dX7_worthAsked_1 ?_
  refine nd_iconst hC (v := nI 3) (by rfl) dX7_worthAsked_4 ?_
  rw [h28]
  first | with_reducible refine nd_icmp_neN hC (tgt := 16) (by omega) (by omega) dX7_worthAsked_5 (by decide) (fun hc => ?_) (fun hc => ?_) | refine nd_icmp_ne hC (tgt := 16) dX7_worthAsked_5 (by decide) (fun hc => ?_) (fun hc => ?_)
  · refine nd_aload_n hC dX7_worthAsked_16 rfl rfl ?_
    refine mo_get_askedWhat hC hw rfl dX7_worthAsked_17 ?_
    refine nd_bipush hC (v := nI 6) (by rfl) dX7_worthAsked_20 ?_
    rw [h28]
    first | with_reducible refine nd_icmp_neN hC (tgt := 33) (by omega) (by omega) dX7_worthAsked_22 (by decide) (fun hc => ?_) (fun hc => ?_) | refine nd_icmp_ne hC (tgt := 33) dX7_worthAsked_22 (by decide) (fun hc => ?_) (fun hc => ?_)
    · omega
    refine nd_aload_n hC dX7_worthAsked_25 rfl rfl ?_
    refine nd_iload_n hC dX7_worthAsked_26 rfl ?_
    refine mo_callV (As := [_]) (d2 := d - 1) hC hw rfl lkX7_446 lyX7_446 (Nat.le_of_ble_eq_true rfl) (by omega) rfl (by exact Nat.le_of_ble_eq_true rfl) (Nat.zero_le _) (Nat.zero_le _) dX7_worthAsked_27 rfl ((sp_leastLiked hg (by omega) hw (by omega) hN hNok hl hok ?_))
    intro A1 h hs hw
    refine nd_goto hC (tgt := 42) dX7_worthAsked_30 (by decide) ?_
    refine nd_ireturn hC rfl (by first | rfl | exact nd_b_nar _) (by omega) (by omega) dX7_worthAsked_42 ((hk A1 h hs hw))
  · omega
theorem se_gains_ok (hg : nd_OK g) (hd : 8 ≤ d) {N : nk_N} (hNok : nk_ok N) (hfm : fm ≤ 5) (hN : mo_nap (A00 0) N) {gs : Nat} (hgs : gs < (nk_w N).length) (hF33 : F00 33 = nI gs) : mo_see g h0 d (nk_n N) fm (Int32 × List Nat) (se_bt (fun x => nk_likes N (mo_fr (A00 0)) (mo_bk (A00 0)) x.2 (fm + x.1.length) gs)) (fun _ => True) (iv_bt 8 A00 F00 B00) := by
  refine se_bt_ok hg (by omega) hfm (Or.inr (Or.inr rfl)) ?_
  intro d r l A F B h K hd2 hbs h28 hw hl hok hlen hk
  have e00 : A 0 = A00 0 := hbs.1 0 rfl (by decide) (by decide)
  have h33 : F 33 = nI gs := by rw [hbs.2.1 33 rfl]; exact hF33
  rw [← e00] at hk hN
  refine nd_enter hg (by decide) rfl (Nat.le_of_ble_eq_true rfl) (fun X hC => ?_)
  refine nd_aload_n hC dX7_worthAsked_0 rfl rfl ?_
  refine mo_get_askedWhat hC hw rfl dX7_worthAsked_1 ?_
  refine nd_iconst hC (v := nI 3) (by rfl) dX7_worthAsked_4 ?_
  rw [h28]
  first | with_reducible refine nd_icmp_neN hC (tgt := 16) (by omega) (by omega) dX7_worthAsked_5 (by decide) (fun hc => ?_) (fun hc => ?_) | refine nd_icmp_ne hC (tgt := 16) dX7_worthAsked_5 (by decide) (fun hc => ?_) (fun hc => ?_)
  · refine nd_aload_n hC dX7_worthAsked_16 rfl rfl ?_
    refine mo_get_askedWhat hC hw rfl dX7_worthAsked_17 ?_
    refine nd_bipush hC (v := nI 6) (by rfl) dX7_worthAsked_20 ?_
    rw [h28]
    first | with_reducible refine nd_icmp_neN hC (tgt := 33) (by omega) (by omega) dX7_worthAsked_22 (by decide) (fun hc => ?_) (fun hc => ?_) | refine nd_icmp_ne hC (tgt := 33) dX7_worthAsked_22 (by decide) (fun hc => ?_) (fun hc => ?_)
    · refine nd_aload_n hC dX7_worthAsked_33 rfl rfl ?_
      refine nd_iload_n hC dX7_worthAsked_34 rfl ?_
      refine nd_aload_n hC dX7_worthAsked_35 rfl rfl ?_
      refine mo_get_askedTray hC hw rfl dX7_worthAsked_36 ?_
      rw [h33]
      refine mo_callV (As := [_, _]) (d2 := d - 1) hC hw rfl lkX7_355 lyX7_355 (Nat.le_of_ble_eq_true rfl) (by omega) rfl (by exact Nat.le_of_ble_eq_true rfl) (Nat.zero_le _) (Nat.zero_le _) dX7_worthAsked_39 rfl ((sp_likesAt hg (by omega) hw (by omega) hgs hN hNok hl hok ?_))
      intro A1 h hs hw
      refine nd_ireturn hC rfl (by first | rfl | exact nd_b_nar _) (by omega) (by omega) dX7_worthAsked_42 ((hk A1 h hs hw))
    · omega
  · omega
theorem sp_seesOne {K : nd_K} {h : nd_H} {A : Nat → Nat → Int32} {F : Nat → Int32} {B : Nat → Nat → Int64} (hg : nd_OK g) (hd : 3 ≤ d) (hn : n ≤ 6) {p m : Nat} {l : List (List Nat)} (hp : p ≤ 10) (hm : F 30 = nI m) (hc0 : A 0 1 = nI n) (hmk : mk_ok (mo_fr (A 0)) (mo_bk (A 0)) n) (hw : mo_W h0 A F B h) (hl : mo_lk (A 19) p l) (hok : lk_ok n l)
    (hk : ∀ f20 h2, mo_W h0 (va_up (va_up A 20 f20) 39 (sn_bh (mo_fr (A 0)) (mo_bk (A 0)) l (A 39) l.length)) (va_up (va_up F 30 (nI (m + 1))) 34 (sn_sure l (F 34) (n - 1))) B h2 → K (.inl none) h2) : nd_M g mX7_seesOne d 0 0 [.ref 101, .int (nI p)] h K := by
  have hwd := lk_width hok
  refine nd_enter hg (by decide) rfl (Nat.le_of_ble_eq_true rfl) (fun X hC => ?_)
  refine nd_aload_n hC dX7_seesOne_0 rfl rfl ?_
  refine nd_dup hC (by rfl) dX7_seesOne_1 ?_
  refine mo_get_rowMany hC hw rfl dX7_seesOne_2 ?_
  rw [hm]
  refine nd_iconst hC (v := nI 1) (by rfl) dX7_seesOne_5 ?_
  first | with_reducible refine nd_iaddN hC dX7_seesOne_6 ?_ | refine nd_iadd hC dX7_seesOne_6 ?_
  refine mo_put_rowMany hC hw rfl dX7_seesOne_7 (fun h hw => ?_)
  refine nd_aload_n hC dX7_seesOne_10 rfl rfl ?_
  refine nd_iload_n hC dX7_seesOne_11 rfl ?_
  refine mo_callV (As := [_]) (d2 := d - 1) hC hw rfl lkX7_302 lyX7_302 (Nat.le_of_ble_eq_true rfl) (by omega) rfl (by exact Nat.le_of_ble_eq_true rfl) (Nat.zero_le _) (Nat.zero_le _) dX7_seesOne_12 rfl ((sp_laysPlaces hg (by omega) hw hp hl hok hn ?_))
  intro f2 h hpl hw
  have hpl2 : mo_pl ((va_up A 20 f2) 20) l n := by rw [va_up_s]; exact hpl
  have hl2 : mo_lk ((va_up A 20 f2) 19) p l := by rw [va_up_n A f2 (by decide)]; exact hl
  have e39 : (va_up A 20 f2) 39 = A 39 := va_up_n A f2 (by decide)
  have e00 : (va_up A 20 f2) 0 = A 0 := va_up_n A f2 (by decide)
  have e0 : (va_up A 20 f2) 0 1 = nI n := by rw [e00]; exact hc0
  have hk := hk f2
  rw [← e39] at hk
  rw [← e00] at hk hmk
  generalize va_up A 20 f2 = A1 at *
  refine nd_iconst hC (v := nI 0) (by rfl) dX7_seesOne_15 ?_
  refine nd_istore_n hC dX7_seesOne_16 (Nat.le_of_ble_eq_true rfl) ?_
  have L : ∀ k, k ≤ n - 1 → ∀ F2 h2, F2 = va_up (va_up F 30 (nI (m + 1))) 34 (sn_sure l (F 34) k) → mo_W h0 A1 F2 B h2 → nd_W g mX7_seesOne d 0 0 K X 17 [some (.ref 101), some (.int (nI p)), some (.int (nI k))] [] h2 0 0 := by
    refine nd_for (n - 1) _ ?_ ?_
    · intro F2 h hF2 hw
      rw [← hF2] at hk
      refine nd_iload_n hC dX7_seesOne_17 rfl ?_
      refine nd_iconst hC (v := nI 1) (by rfl) dX7_seesOne_18 ?_
      first | with_reducible refine nd_iaddN hC dX7_seesOne_19 ?_ | refine nd_iadd hC dX7_seesOne_19 ?_
      refine nd_aload_n hC dX7_seesOne_20 rfl rfl ?_
      refine mo_callV (As := []) (d2 := d - 1) hC hw rfl lkX7_253 lyX7_253 (Nat.le_of_ble_eq_true rfl) (by omega) rfl (by exact Nat.le_of_ble_eq_true rfl) (Nat.zero_le _) (Nat.zero_le _) dX7_seesOne_21 rfl ((sp_cells hg hw ?_))
      rw [e0]
      first | with_reducible refine nd_icmp_geN hC (tgt := 55) (by omega) (by omega) dX7_seesOne_24 (by decide) (fun hq => ?_) (fun hq => ?_) | refine nd_icmp_ge hC (tgt := 55) dX7_seesOne_24 (by decide) (fun hq => ?_) (fun hq => ?_)
      · refine nd_iconst hC (v := nI 0) (by rfl) dX7_seesOne_55 ?_
        refine nd_istore_n hC dX7_seesOne_56 (Nat.le_of_ble_eq_true rfl) ?_
        have L2 : ∀ k, k ≤ l.length → ∀ h2, mo_W h0 (va_up A1 39 (sn_bh (mo_fr (A1 0)) (mo_bk (A1 0)) l (A1 39) k)) F2 B h2 → nd_W g mX7_seesOne d 0 0 K X 57 [some (.ref 101), some (.int (nI p)), some (.int (nI k))] [] h2 0 0 := by
          refine nd_for l.length _ ?_ ?_
          · intro h hw
            refine nd_iload_n hC dX7_seesOne_57 rfl ?_
            refine nd_aload_n hC dX7_seesOne_58 rfl rfl ?_
            refine nd_iload_n hC dX7_seesOne_59 rfl ?_
            refine mo_callV (As := [_]) (d2 := d - 1) hC hw rfl lkX7_256 lyX7_256 (Nat.le_of_ble_eq_true rfl) (by omega) rfl (by exact Nat.le_of_ble_eq_true rfl) (Nat.zero_le _) (Nat.zero_le _) dX7_seesOne_60 rfl ((sp_columnsAt hg hw hp ?_))
            rw [va_up_n A1 _ (show 19 ≠ 39 by decide), hl2.1]
            first | with_reducible refine nd_icmp_geN hC (tgt := 92) (by omega) (by omega) dX7_seesOne_63 (by decide) (fun hz => ?_) (fun hz => ?_) | refine nd_icmp_ge hC (tgt := 92) dX7_seesOne_63 (by decide) (fun hz => ?_) (fun hz => ?_)
            · refine nd_return hC rfl (by omega) (by omega) dX7_seesOne_92 ((hk h hw))
            · omega
          · intro k hk1 ih h hw
            obtain ⟨j, hj, ej⟩ := mk_in hmk (lk_bot_half hok hn hk1)
            refine nd_iload_n hC dX7_seesOne_57 rfl ?_
            refine nd_aload_n hC dX7_seesOne_58 rfl rfl ?_
            refine nd_iload_n hC dX7_seesOne_59 rfl ?_
            refine mo_callV (As := [_]) (d2 := d - 1) hC hw rfl lkX7_256 lyX7_256 (Nat.le_of_ble_eq_true rfl) (by omega) rfl (by exact Nat.le_of_ble_eq_true rfl) (Nat.zero_le _) (Nat.zero_le _) dX7_seesOne_60 rfl ((sp_columnsAt hg hw hp ?_))
            rw [va_up_n A1 _ (show 19 ≠ 39 by decide), hl2.1]
            first | with_reducible refine nd_icmp_geN hC (tgt := 92) (by omega) (by omega) dX7_seesOne_63 (by decide) (fun hz => ?_) (fun hz => ?_) | refine nd_icmp_ge hC (tgt := 92) dX7_seesOne_63 (by decide) (fun hz => ?_) (fun hz => ?_)
            · omega
            refine nd_aload_n hC dX7_seesOne_66 rfl rfl ?_
            refine mo_get_beneathHow hC hw rfl dX7_seesOne_67 ?_
            refine nd_bipush hC (v := nI 100) (by rfl) dX7_seesOne_70 ?_
            refine nd_iload_n hC dX7_seesOne_72 rfl ?_
            first | with_reducible refine nd_imulN hC dX7_seesOne_73 ?_ | refine nd_imul hC dX7_seesOne_73 ?_
            refine nd_aload_n hC dX7_seesOne_74 rfl rfl ?_
            refine nd_iload_n hC dX7_seesOne_75 rfl ?_
            refine nd_iload_n hC dX7_seesOne_76 rfl ?_
            refine mo_callV (As := [_, _]) (d2 := d - 1) hC hw rfl lkX7_290 lyX7_290 (Nat.le_of_ble_eq_true rfl) (by omega) rfl (by exact Nat.le_of_ble_eq_true rfl) (Nat.zero_le _) (Nat.zero_le _) dX7_seesOne_77 rfl ((sp_beneathAt hg (by omega) hw hp (by rw [va_up_n A1 _ (show 19 ≠ 39 by decide)]; exact hl2) hok hn hk1 ?_))
            rw [va_up_n A1 _ (show 0 ≠ 39 by decide), ej]
            have ejn : (lk_mk (mo_fr (A1 0)) (mo_bk (A1 0)) (lk_bot (l.getD k []))).toNatClampNeg = j := by rw [ej]; exact nI_clamp (by omega)
            first | with_reducible refine nd_iaddN hC dX7_seesOne_80 ?_ | refine nd_iadd hC dX7_seesOne_80 ?_
            refine nd_dup2_11 hC (by rfl) (by rfl) dX7_seesOne_81 ?_
            refine nd_ialoadN hC hw.beneathHow (by omega) (by decide) dX7_seesOne_82 ?_
            rw [va_up_s]
            refine nd_iconst hC (v := nI 1) (by rfl) dX7_seesOne_83 ?_
            refine nd_iadd hC dX7_seesOne_84 ?_
            refine mo_ast_beneathHow hC hw (by omega) dX7_seesOne_85 (fun h hw => ?_)
            try simp only [va_up_up, va_up_s] at hw
            first | with_reducible refine nd_iincN hC dX7_seesOne_86 rfl (Nat.le_of_ble_eq_true rfl) ?_ | refine nd_iinc hC dX7_seesOne_86 rfl rfl (Nat.le_of_ble_eq_true rfl) ?_
            refine nd_goto hC (tgt := 57) dX7_seesOne_89 (by decide) ?_
            refine ih h ?_
            have eb : sn_bh (mo_fr (A1 0)) (mo_bk (A1 0)) l (A1 39) (k + 1) = upd (sn_bh (mo_fr (A1 0)) (mo_bk (A1 0)) l (A1 39) k) (100 * k + j) (sn_bh (mo_fr (A1 0)) (mo_bk (A1 0)) l (A1 39) k (100 * k + j) + nI 1) := by
              show upd (sn_bh (mo_fr (A1 0)) (mo_bk (A1 0)) l (A1 39) k) _ _ = _
              rw [ejn]
            rw [eb]
            exact hw
        exact L2 0 (Nat.zero_le _) h (by show mo_W h0 (va_up A1 39 (A1 39)) F2 B h; rw [va_up_id]; exact hw)
      · omega
    · intro k hk1 ih F2 h hF2 hw
      have hle := lk_cr_le l k
      refine nd_iload_n hC dX7_seesOne_17 rfl ?_
      refine nd_iconst hC (v := nI 1) (by rfl) dX7_seesOne_18 ?_
      first | with_reducible refine nd_iaddN hC dX7_seesOne_19 ?_ | refine nd_iadd hC dX7_seesOne_19 ?_
      refine nd_aload_n hC dX7_seesOne_20 rfl rfl ?_
      refine mo_callV (As := []) (d2 := d - 1) hC hw rfl lkX7_253 lyX7_253 (Nat.le_of_ble_eq_true rfl) (by omega) rfl (by exact Nat.le_of_ble_eq_true rfl) (Nat.zero_le _) (Nat.zero_le _) dX7_seesOne_21 rfl ((sp_cells hg hw ?_))
      rw [e0]
      first | with_reducible refine nd_icmp_geN hC (tgt := 55) (by omega) (by omega) dX7_seesOne_24 (by decide) (fun hq => ?_) (fun hq => ?_) | refine nd_icmp_ge hC (tgt := 55) dX7_seesOne_24 (by decide) (fun hq => ?_) (fun hq => ?_)
      · omega
      refine nd_aload_n hC dX7_seesOne_27 rfl rfl ?_
      refine nd_iload_n hC dX7_seesOne_28 rfl ?_
      refine mo_callV (As := [_]) (d2 := d - 1) hC hw rfl lkX7_305 lyX7_305 (Nat.le_of_ble_eq_true rfl) (by omega) rfl (by exact Nat.le_of_ble_eq_true rfl) (Nat.zero_le _) (Nat.zero_le _) dX7_seesOne_29 rfl ((sp_creaseOf hg hw hpl2 hok hn (by omega) ?_))
      first | with_reducible refine nd_if_neB hC (tgt := 49) dX7_seesOne_32 (by decide) (fun hz => ?_) (fun hz => ?_) | with_reducible refine nd_if_neN hC (tgt := 49) (by omega) dX7_seesOne_32 (by decide) (fun hz => ?_) (fun hz => ?_) | refine nd_if_ne hC (tgt := 49) dX7_seesOne_32 (by decide) (fun hz => ?_) (fun hz => ?_)
      · first | with_reducible refine nd_iincN hC dX7_seesOne_49 rfl (Nat.le_of_ble_eq_true rfl) ?_ | refine nd_iinc hC dX7_seesOne_49 rfl rfl (Nat.le_of_ble_eq_true rfl) ?_
        refine nd_goto hC (tgt := 17) dX7_seesOne_52 (by decide) ?_
        refine ih F2 h ?_ hw
        rw [hF2]
        show _ = va_up _ 34 (if lk_cr l k = 0 then _ else _)
        rw [if_neg hz]
      · refine nd_aload_n hC dX7_seesOne_35 rfl rfl ?_
        refine nd_dup hC (by rfl) dX7_seesOne_36 ?_
        refine mo_get_sureSet hC hw rfl dX7_seesOne_37 ?_
        refine nd_iconst hC (v := nI 1) (by rfl) dX7_seesOne_40 ?_
        refine nd_iload_n hC dX7_seesOne_41 rfl ?_
        refine nd_ishl hC dX7_seesOne_42 ?_
        refine nd_iconst hC (v := -1) (by rfl) dX7_seesOne_43 ?_
        refine nd_ixor hC dX7_seesOne_44 ?_
        refine nd_iand hC dX7_seesOne_45 ?_
        refine mo_put_sureSet hC hw rfl dX7_seesOne_46 (fun h hw => ?_)
        first | with_reducible refine nd_iincN hC dX7_seesOne_49 rfl (Nat.le_of_ble_eq_true rfl) ?_ | refine nd_iinc hC dX7_seesOne_49 rfl rfl (Nat.le_of_ble_eq_true rfl) ?_
        refine nd_goto hC (tgt := 17) dX7_seesOne_52 (by decide) ?_
        refine ih _ h ?_ hw
        rw [hF2, va_up_up, va_up_s]
        show _ = va_up _ 34 (if lk_cr l k = 0 then _ else _)
        rw [if_pos hz]
  exact L 0 (Nat.zero_le _) _ h (by
    show va_up F 30 (nI (m + 1)) = va_up (va_up F 30 (nI (m + 1))) 34 (F 34)
    exact (va_up_id (va_up F 30 (nI (m + 1))) 34).symm) hw
theorem se_seen_ok (hg : nd_OK g) (hd : 5 ≤ d) (hn : n ≤ 6) (hfm : fm ≤ 5) {t : Nat} {v : List Int64} (ht : t < 4) (hv : mo_tr A00 B00 t v) (hF33 : F00 33 = nI t) (hc0 : A00 0 1 = nI n) (hmk : mk_ok (mo_fr (A00 0)) (mo_bk (A00 0)) n) : mo_see g h0 d n fm (Nat × Int32 × (Nat → Int32)) (se_sn (mo_fr (A00 0)) (mo_bk (A00 0)) n v) (fun _ => True) (iv_sn A00 F00 B00) := by
  intro s r l A F B h K hB hI hw hl hok hr hF hlen hk
  have e00 : A 0 = A00 0 := hI.1.1 0 rfl (by decide) (by decide)
  have hv2 : mo_tr A B t v := by unfold mo_tr; rw [hI.1.1 41 rfl (by decide) (by decide), hI.1.2.2 42 (by decide)]; exact hv
  have h33 : F 33 = nI t := by rw [hI.1.2.1 33 rfl]; exact hF33
  rw [← e00] at hk hc0 hmk
  refine nd_enter hg (by decide) rfl (Nat.le_of_ble_eq_true rfl) (fun X hC => ?_)
  refine nd_aload_n hC dX7_sees_0 rfl rfl ?_
  refine mo_get_askedWhat hC hw rfl dX7_sees_1 ?_
  rw [hI.2.1]
  refine nd_tableIn hC (tgt := 254) dX7_sees_4 (by decide) (by decide) (by rfl) (by decide) ?_
  refine nd_aload_n hC dX7_sees_254 rfl rfl ?_
  refine nd_iload_n hC dX7_sees_255 rfl ?_
  refine nd_aload_n hC dX7_sees_256 rfl rfl ?_
  refine mo_get_askedTray hC hw rfl dX7_sees_257 ?_
  rw [h33]
  refine mo_callV (As := [_, _]) (d2 := d - 1) hC hw rfl lkX7_471 lyX7_471 (Nat.le_of_ble_eq_true rfl) (by omega) rfl (by exact Nat.le_of_ble_eq_true rfl) (Nat.zero_le _) (Nat.zero_le _) dX7_sees_260 rfl ((sp_looksSo hg (by omega) hw (by omega) ht hv2 hl hok hn ?_))
  first | with_reducible refine nd_if_eqB hC (tgt := 271) dX7_sees_263 (by decide) (fun hq => ?_) (fun hq => ?_) | with_reducible refine nd_if_eqN hC (tgt := 271) (by omega) dX7_sees_263 (by decide) (fun hq => ?_) (fun hq => ?_) | refine nd_if_eq hC (tgt := 271) dX7_sees_263 (by decide) (fun hq => ?_) (fun hq => ?_)
  · have es : se_sn (mo_fr (A 0)) (mo_bk (A 0)) n v s (r, l) = (s, false) := by unfold se_sn; rw [if_neg (by rw [hq]; decide)]
    rw [es] at hk
    refine nd_iconst hC (v := nI 0) (by rfl) dX7_sees_271 ?_
    refine nd_ireturn hC rfl (by first | rfl | exact nd_b_nar _) (by omega) (by omega) dX7_sees_272 ((hk A F B h hI mo_fx.rfl hw))
  · have es : se_sn (mo_fr (A 0)) (mo_bk (A 0)) n v s (r, l) = ((s.1 + 1, sn_sure l s.2.1 (n - 1), sn_bh (mo_fr (A 0)) (mo_bk (A 0)) l s.2.2 l.length), false) := by unfold se_sn; rw [if_pos hq]
    rw [es] at hk
    refine nd_aload_n hC dX7_sees_266 rfl rfl ?_
    refine nd_iload_n hC dX7_sees_267 rfl ?_
    refine mo_callV (As := [_]) (d2 := d - 1) hC hw rfl lkX7_474 lyX7_474 (Nat.le_of_ble_eq_true rfl) (by omega) rfl (by exact Nat.le_of_ble_eq_true rfl) (Nat.zero_le _) (Nat.zero_le _) dX7_sees_268 rfl ((sp_seesOne hg (by omega) hn (by omega) hI.2.2.1 hc0 hmk hw hl hok ?_))
    intro f20 h hw
    rw [hI.2.2.2.1, hI.2.2.2.2] at hw
    have q2 := ((((mo_fx.rfl (A := A) (F := F) (B := B)).upA (k := 20) rfl f20).upA (k := 39) rfl (sn_bh (mo_fr (A 0)) (mo_bk (A 0)) l s.2.2 l.length)).upF (k := 30) rfl (nI (s.1 + 1))).upF (k := 34) rfl (sn_sure l s.2.1 (n - 1))
    refine nd_iconst hC (v := nI 0) (by rfl) dX7_sees_271 ?_
    refine nd_ireturn hC rfl (by first | rfl | exact nd_b_nar _) (by omega) (by omega) dX7_sees_272 ((hk _ _ _ h ⟨hI.1.fx q2, hI.2.1, rfl, by rw [va_up_s], by rw [va_up_s]⟩ q2 hw))
end MO16

