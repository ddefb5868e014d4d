set_option maxRecDepth 100000
/-- rows that what is asked of a look may change: int rows, int fields, long rows -/
def mo_sa (k : Nat) : Bool := k == 20 || k == 21 || k == 22 || k == 26 || k == 36 || k == 39
def mo_sf (k : Nat) : Bool := k == 30 || k == 31 || k == 32 || k == 34
/-- the table of marks: an entry stays, or becomes this turn's -/
def mo_tbx (mb : Nat → Int32) (t : Int32) (mb2 : Nat → Int32) : Prop := ∀ j, mb2 j = mb j ∨ mb2 j = t
theorem mo_tbx.trans {a b c : Nat → Int32} {t t2 : Int32} (h : mo_tbx a t b) (h2 : mo_tbx b t2 c) (e : t2 = t) : mo_tbx a t c := fun j => by
  subst e
  rcases h2 j with q | q
  · rcases h j with q2 | q2
    · exact Or.inl (q.trans q2)
    · exact Or.inr (q.trans q2)
  · exact Or.inr q
theorem mo_tbx.rfl {a : Nat → Int32} {t : Int32} : mo_tbx a t a := fun _ => Or.inl (Eq.refl _)
def mo_fx (A A2 : Nat → Nat → Int32) (F F2 : Nat → Int32) (B B2 : Nat → Nat → Int64) : Prop := (∀ k, mo_sa k = false → A2 k = A k) ∧ (∀ k, mo_sf k = false → F2 k = F k) ∧ (∀ k, k ≠ 35 → B2 k = B k) ∧ mo_tbx (A 36) (F 37) (A2 36)
theorem mo_fx.rfl {A : Nat → Nat → Int32} {F : Nat → Int32} {B : Nat → Nat → Int64} : mo_fx A A F F B B := ⟨fun _ _ => Eq.refl _, fun _ _ => Eq.refl _, fun _ _ => Eq.refl _, mo_tbx.rfl⟩
theorem mo_fx.trans {A A2 A3 : Nat → Nat → Int32} {F F2 F3 : Nat → Int32} {B B2 B3 : Nat → Nat → Int64} (h : mo_fx A A2 F F2 B B2) (h2 : mo_fx A2 A3 F2 F3 B2 B3) : mo_fx A A3 F F3 B B3 := ⟨fun k q => (h2.1 k q).trans (h.1 k q), fun k q => (h2.2.1 k q).trans (h.2.1 k q), fun k q => (h2.2.2.1 k q).trans (h.2.2.1 k q), h.2.2.2.trans h2.2.2.2 (h.2.1 37 (by decide))⟩
/-- .. and beside that the looks behind p and the row behind it -/
def mo_gx (p fm : Nat) (A A2 : Nat → Nat → Int32) (F F2 : Nat → Int32) (B B2 : Nat → Nat → Int64) : Prop := (∀ k, mo_sa k = false → k ≠ 19 → k ≠ 25 → A2 k = A k) ∧ (∀ k, mo_sf k = false → F2 k = F k) ∧ (∀ k, k ≠ 35 → B2 k = B k) ∧ (∀ i, i < 43 * (p + 1) → A2 19 i = A 19 i) ∧ (∀ i, i < p - fm → A2 25 i = A 25 i) ∧ mo_tbx (A 36) (F 37) (A2 36)
theorem mo_gx.rfl {p fm : Nat} {A : Nat → Nat → Int32} {F : Nat → Int32} {B : Nat → Nat → Int64} : mo_gx p fm A A F F B B := ⟨fun _ _ _ _ => Eq.refl _, fun _ _ => Eq.refl _, fun _ _ => Eq.refl _, fun _ _ => Eq.refl _, fun _ _ => Eq.refl _, mo_tbx.rfl⟩
theorem mo_gx.trans {p fm : Nat} {A A2 A3 : Nat → Nat → Int32} {F F2 F3 : Nat → Int32} {B B2 B3 : Nat → Nat → Int64} (h : mo_gx p fm A A2 F F2 B B2) (h2 : mo_gx p fm A2 A3 F2 F3 B2 B3) : mo_gx p fm A A3 F F3 B B3 :=
  ⟨fun k q a b => (h2.1 k q a b).trans (h.1 k q a b), fun k q => (h2.2.1 k q).trans (h.2.1 k q), fun k q => (h2.2.2.1 k q).trans (h.2.2.1 k q), fun i q => (h2.2.2.2.1 i q).trans (h.2.2.2.1 i q), fun i q => (h2.2.2.2.2.1 i q).trans (h.2.2.2.2.1 i q), h.2.2.2.2.2.trans h2.2.2.2.2.2 (h.2.1 37 (by decide))⟩
theorem mo_gx.weak {p fm : Nat} {A A2 : Nat → Nat → Int32} {F F2 : Nat → Int32} {B B2 : Nat → Nat → Int64} (h : mo_gx (p + 1) fm A A2 F F2 B B2) : mo_gx p fm A A2 F F2 B B2 := ⟨h.1, h.2.1, h.2.2.1, fun i q => h.2.2.2.1 i (by omega), fun i q => h.2.2.2.2.1 i (by omega), h.2.2.2.2.2⟩
theorem mo_fx.gx {p fm : Nat} {A A2 : Nat → Nat → Int32} {F F2 : Nat → Int32} {B B2 : Nat → Nat → Int64} (h : mo_fx A A2 F F2 B B2) : mo_gx p fm A A2 F F2 B B2 := ⟨fun k q _ _ => h.1 k q, h.2.1, h.2.2.1, fun i _ => by rw [h.1 19 (by decide)], fun i _ => by rw [h.1 25 (by decide)], h.2.2.2⟩
/-- the row so far -/
def mo_rw (f : Nat → Int32) (r : List Nat) : Prop := ∀ i, i < r.length → f i = nI (r.getD i 0)
/-- WHAT IS ASKED, as a thing of its own: s stands for what is kept of the rows seen so far (Iv says how), see for what one more row does -/
def mo_see (g : nd_G) (h0 : nd_H) (d n fm : Nat) (σ : Type) (see : σ → lv_E → σ × Bool) (Bd : σ → Prop) (Iv : σ → (Nat → Nat → Int32) → (Nat → Int32) → (Nat → Nat → Int64) → Prop) : Prop :=
  ∀ (s : σ) (r : List Nat) (l : List (List Nat)) (A : Nat → Nat → Int32) (F : Nat → Int32) (B : Nat → Nat → Int64) (h : nd_H) (K : nd_K), Bd s → Iv s A F B → mo_W h0 A F B h → mo_lk (A 19) (fm + r.length) l → lk_ok n l → mo_rw (A 25) r → F 29 = nI fm → r.length ≤ 5 →
    (∀ A2 F2 B2 h2, Iv (see s (r, l)).1 A2 F2 B2 → mo_fx A A2 F F2 B B2 → mo_W h0 A2 F2 B2 h2 → K (.inl (some (.int (nd_b (see s (r, l)).2)))) h2) → nd_M g mX7_sees d 0 0 [.ref 101, .int (nI (fm + r.length))] h K
section MO9
variable {g : nd_G} {K : nd_K} {h h0 : nd_H} {A : Nat → Nat → Int32} {F : Nat → Int32} {B : Nat → Nat → Int64} {f : Nat → Int32}
theorem sp_goes (hg : nd_OK g) {n fm d0 : Nat} {σ : Type} {see : σ → lv_E → σ × Bool} {Bd : σ → Prop} {Iv : σ → (Nat → Nat → Int32) → (Nat → Int32) → (Nat → Nat → Int64) → Prop} (hn : n ≤ 6) (hfm : fm ≤ 5) (hd0 : 3 ≤ d0) (hS : ∀ d, d0 ≤ d → mo_see g h0 d n fm σ see Bd Iv)
    (hI : ∀ s A F B f, Iv s A F B → Iv s (va_up A 19 f) F B) (hI2 : ∀ s A F B f, Iv s A F B → Iv s (va_up A 25 f) F B) : ∀ (left d : Nat) (s : σ) (r : List Nat) (l : List (List Nat)) (A : Nat → Nat → Int32) (F : Nat → Int32) (B : Nat → Nat → Int64) (h : nd_H) (K : nd_K), d0 + left + 1 ≤ d → lv_B see Bd s ((lv_lev left l).map (fun q => (r ++ q.1, q.2))) → Iv s A F B → mo_W h0 A F B h → mo_lk (A 19) (fm + r.length) l → lk_ok n l → mo_rw (A 25) r → F 29 = nI fm → r.length + left ≤ 5 →
    (∀ A2 F2 B2 h2, Iv (lv_go see s ((lv_lev left l).map (fun q => (r ++ q.1, q.2)))).1 A2 F2 B2 → mo_gx (fm + r.length) fm A A2 F F2 B B2 → mo_W h0 A2 F2 B2 h2 → K (.inl (some (.int (nd_b (lv_go see s ((lv_lev left l).map (fun q => (r ++ q.1, q.2)))).2)))) h2) → nd_M g mX7_goes d 0 0 [.ref 101, .int (nI (fm + r.length)), .int (nI left)] h K := by
  intro left
  induction left with
  | zero =>
    intro d s r l A F B h K hd hB hIv hw hl hok hr hF hlen hk
    have e0 : (lv_lev 0 l).map (fun q => (r ++ q.1, q.2)) = [(r, l)] := by simp [lv_lev]
    have e1 : lv_go see s [(r, l)] = see s (r, l) := by
      simp only [lv_go]
      split
      · rfl
      · rename_i q
        have e2 : (see s (r, l)).2 = false := by simpa using q
        exact Prod.ext rfl e2.symm
    rw [e0, e1] at hk
    rw [e0] at hB
    refine nd_enter hg (by decide) rfl (Nat.le_of_ble_eq_true rfl) (fun X hC => ?_)
    refine nd_iload_n hC dX7_goes_0 rfl ?_
    first | with_reducible refine nd_if_neB hC (tgt := 10) dX7_goes_1 (by decide) (fun hc => ?_) (fun hc => ?_) | with_reducible refine nd_if_neN hC (tgt := 10) (by omega) dX7_goes_1 (by decide) (fun hc => ?_) (fun hc => ?_) | refine nd_if_ne hC (tgt := 10) dX7_goes_1 (by decide) (fun hc => ?_) (fun hc => ?_)
    · omega
    · refine nd_aload_n hC dX7_goes_4 rfl rfl ?_
      refine nd_iload_n hC dX7_goes_5 rfl ?_
      refine mo_callV (As := [_]) (d2 := d - 1) hC hw rfl lkX7_416 lyX7_416 (Nat.le_of_ble_eq_true rfl) (by omega) rfl (by exact Nat.le_of_ble_eq_true rfl) (Nat.zero_le _) (Nat.zero_le _) dX7_goes_6 rfl ((hS (d - 1) (by omega) s r l A F B h _ hB.1 hIv hw hl hok hr hF (by omega) ?_))
      intro A2 F2 B2 h hIv hfx hw
      refine nd_ireturn hC rfl (by first | rfl | exact nd_b_nar _) (by omega) (by omega) dX7_goes_9 ((hk A2 F2 B2 h hIv hfx.gx hw))
  | succ left ihL =>
    intro d s r l A F B h K hd hB hIv hw hl hok hr hF hlen hk
    have hwd := lk_width hok
    rw [lv_left_0] at hk hB
    refine nd_enter hg (by decide) rfl (Nat.le_of_ble_eq_true rfl) (fun X hC => ?_)
    refine nd_iload_n hC dX7_goes_0 rfl ?_
    first | with_reducible refine nd_if_neB hC (tgt := 10) dX7_goes_1 (by decide) (fun hc => ?_) (fun hc => ?_) | with_reducible refine nd_if_neN hC (tgt := 10) (by omega) dX7_goes_1 (by decide) (fun hc => ?_) (fun hc => ?_) | refine nd_if_ne hC (tgt := 10) dX7_goes_1 (by decide) (fun hc => ?_) (fun hc => ?_)
    · refine nd_iconst hC (v := nI 1) (by rfl) dX7_goes_10 ?_
      refine nd_istore_n hC dX7_goes_11 (Nat.le_of_ble_eq_true rfl) ?_
      have L : ∀ i, i ≤ l.length - 1 → ∀ (s2 : σ) A2 F2 B2 h2, lv_B see Bd s2 (lv_left left l r (4 * i)) → Iv s2 A2 F2 B2 → mo_gx (fm + r.length) fm A A2 F F2 B B2 → mo_W h0 A2 F2 B2 h2 → lv_go see s2 (lv_left left l r (4 * i)) = lv_go see s (lv_left left l r 0) → nd_W g mX7_goes d 0 0 K X 12 [some (.ref 101), some (.int (nI (fm + r.length))), some (.int (nI (left + 1))), some (.int (nI (i + 1))), none] [] h2 0 0 := by
        refine nd_for (l.length - 1) _ ?_ ?_
        · intro s2 A2 F2 B2 h hB2 hIv2 hgx hw he
          rw [lv_left_e left l r (Nat.le_refl _)] at he
          rw [← he] at hk
          refine nd_iload_n hC dX7_goes_12 rfl ?_
          refine nd_aload_n hC dX7_goes_13 rfl rfl ?_
          refine nd_iload_n hC dX7_goes_14 rfl ?_
          refine mo_callV (As := [_]) (d2 := d - 1) hC hw rfl lkX7_256 lyX7_256 (Nat.le_of_ble_eq_true rfl) (by omega) rfl (by exact Nat.le_of_ble_eq_true rfl) (Nat.zero_le _) (Nat.zero_le _) dX7_goes_15 rfl ((sp_columnsAt hg hw (by omega) ?_))
          refine nd_v_eq (y := .int (nI l.length)) (by rw [hgx.2.2.2.1 _ (by omega), hl.1]) ?_
          first | with_reducible refine nd_icmp_geN hC (tgt := 83) (by omega) (by omega) dX7_goes_18 (by decide) (fun hc => ?_) (fun hc => ?_) | refine nd_icmp_ge hC (tgt := 83) dX7_goes_18 (by decide) (fun hc => ?_) (fun hc => ?_)
          · refine nd_iconst hC (v := nI 0) (by rfl) dX7_goes_83 ?_
            refine nd_ireturn hC rfl (by first | rfl | exact nd_b_nar _) (by omega) (by omega) dX7_goes_84 ((hk A2 F2 B2 h hIv2 hgx hw))
          · omega
        · intro i hi ih s2 A2 F2 B2 h hB2 hIv2 hgx hw he
          refine nd_iload_n hC dX7_goes_12 rfl ?_
          refine nd_aload_n hC dX7_goes_13 rfl rfl ?_
          refine nd_iload_n hC dX7_goes_14 rfl ?_
          refine mo_callV (As := [_]) (d2 := d - 1) hC hw rfl lkX7_256 lyX7_256 (Nat.le_of_ble_eq_true rfl) (by omega) rfl (by exact Nat.le_of_ble_eq_true rfl) (Nat.zero_le _) (Nat.zero_le _) dX7_goes_15 rfl ((sp_columnsAt hg hw (by omega) ?_))
          refine nd_v_eq (y := .int (nI l.length)) (by rw [hgx.2.2.2.1 _ (by omega), hl.1]) ?_
          first | with_reducible refine nd_icmp_geN hC (tgt := 83) (by omega) (by omega) dX7_goes_18 (by decide) (fun hc => ?_) (fun hc => ?_) | refine nd_icmp_ge hC (tgt := 83) dX7_goes_18 (by decide) (fun hc => ?_) (fun hc => ?_)
          · omega
          refine nd_iconst hC (v := nI 0) (by rfl) dX7_goes_21 ?_
          refine nd_istore hC dX7_goes_22 (Nat.le_of_ble_eq_true rfl) ?_
          have L2 : ∀ w, w ≤ 4 → ∀ (s2 : σ) A2 F2 B2 h2, lv_B see Bd s2 (lv_left left l r (4 * i + w)) → Iv s2 A2 F2 B2 → mo_gx (fm + r.length) fm A A2 F F2 B B2 → mo_W h0 A2 F2 B2 h2 → lv_go see s2 (lv_left left l r (4 * i + w)) = lv_go see s (lv_left left l r 0) → nd_W g mX7_goes d 0 0 K X 24 [some (.ref 101), some (.int (nI (fm + r.length))), some (.int (nI (left + 1))), some (.int (nI (i + 1))), some (.int (nI w))] [] h2 0 0 := by
            refine nd_for 4 _ ?_ ?_
            · intro s2 A2 F2 B2 h hB2 hIv2 hgx hw he
              refine nd_iload hC dX7_goes_24 rfl ?_
              refine nd_iconst hC (v := nI 4) (by rfl) dX7_goes_26 ?_
              first | with_reducible refine nd_icmp_geN hC (tgt := 77) (by omega) (by omega) dX7_goes_27 (by decide) (fun hc => ?_) (fun hc => ?_) | refine nd_icmp_ge hC (tgt := 77) dX7_goes_27 (by decide) (fun hc => ?_) (fun hc => ?_)
              · first | with_reducible refine nd_iincN hC dX7_goes_77 rfl (Nat.le_of_ble_eq_true rfl) ?_ | refine nd_iinc hC dX7_goes_77 rfl rfl (Nat.le_of_ble_eq_true rfl) ?_
                refine nd_goto hC (tgt := 12) dX7_goes_80 (by decide) ?_
                refine nd_drop 4 ?_
                exact ih s2 A2 F2 B2 h hB2 hIv2 hgx hw he
              · omega
            · intro w hw4 ih2 s2 A2 F2 B2 h hB2 hIv2 hgx hw he
              have hF2 : F2 29 = nI fm := by rw [hgx.2.1 29 (by decide)]; exact hF
              refine nd_iload hC dX7_goes_24 rfl ?_
              refine nd_iconst hC (v := nI 4) (by rfl) dX7_goes_26 ?_
              first | with_reducible refine nd_icmp_geN hC (tgt := 77) (by omega) (by omega) dX7_goes_27 (by decide) (fun hc => ?_) (fun hc => ?_) | refine nd_icmp_ge hC (tgt := 77) dX7_goes_27 (by decide) (fun hc => ?_) (fun hc => ?_)
              · omega
              refine nd_aload_n hC dX7_goes_30 rfl rfl ?_
              refine mo_get_row hC hw rfl dX7_goes_31 ?_
              refine nd_iload_n hC dX7_goes_34 rfl ?_
              refine nd_aload_n hC dX7_goes_35 rfl rfl ?_
              refine mo_get_from hC hw rfl dX7_goes_36 ?_
              rw [hF2]
              first | with_reducible refine nd_isubN hC (by omega) dX7_goes_39 ?_ | refine nd_isub hC dX7_goes_39 ?_
              refine nd_bipush hC (v := nI 10) (by rfl) dX7_goes_40 ?_
              refine nd_iload_n hC dX7_goes_42 rfl ?_
              first | with_reducible refine nd_imulN hC dX7_goes_43 ?_ | refine nd_imul hC dX7_goes_43 ?_
              refine nd_iload hC dX7_goes_44 rfl ?_
              first | with_reducible refine nd_iaddN hC dX7_goes_46 ?_ | refine nd_iadd hC dX7_goes_46 ?_
              refine mo_ast_row hC hw (by omega) dX7_goes_47 (fun h hw => ?_)
              try simp only [va_up_up, va_up_s] at hw
              generalize hcc : 10 * (i + 1) + w = c at hw
              have hjj : fm + r.length - fm = r.length := by omega
              rw [hjj] at hw
              have hIv3 := hI2 s2 A2 F2 B2 (upd (A2 25) r.length (nI c)) hIv2
              have hgx3 : mo_gx (fm + r.length) fm A (va_up A2 25 (upd (A2 25) r.length (nI c))) F F2 B B2 := by
                refine ⟨fun k q a b => by rw [va_up_n A2 _ b]; exact hgx.1 k q a b, hgx.2.1, hgx.2.2.1, fun i q => by rw [va_up_n A2 _ (by decide)]; exact hgx.2.2.2.1 i q, fun i q => ?_, by rw [va_up_n A2 _ (by decide)]; exact hgx.2.2.2.2.2⟩
                rw [va_up_s, upd_n (by omega)]
                exact hgx.2.2.2.2.1 i q
              have hr3 : mo_rw ((va_up A2 25 (upd (A2 25) r.length (nI c))) 25) (r ++ [c]) := by
                intro i hi
                rw [va_up_s]
                by_cases e : i = r.length
                · subst e; rw [upd_s]; simp
                · have hi2 : i < r.length := by simp at hi; omega
                  rw [upd_n e, hgx.2.2.2.2.1 i (by omega), hr i hi2]
                  simp [List.getD_eq_getElem?_getD, List.getElem?_append_left hi2]
              generalize va_up A2 25 (upd (A2 25) r.length (nI c)) = A3 at *
              have hl3 : mo_lk (A3 19) (fm + r.length) l := mo_lk_row hl hok hn hgx3.2.2.2.1
              have hw3 : mo_W h0 (va_up A3 19 (A3 19)) F2 B2 h := by rw [va_up_id]; exact hw
              refine nd_aload_n hC dX7_goes_48 rfl rfl ?_
              refine nd_iload_n hC dX7_goes_49 rfl ?_
              refine nd_iload_n hC dX7_goes_50 rfl ?_
              refine nd_iload hC dX7_goes_51 rfl ?_
              refine mo_callV (As := [_, _, _]) (d2 := d - 1) hC hw rfl lkX7_280 lyX7_280 (Nat.le_of_ble_eq_true rfl) (by omega) rfl (by exact Nat.le_of_ble_eq_true rfl) (Nat.zero_le _) (Nat.zero_le _) dX7_goes_53 rfl ((sp_folds hg (by omega) hw3 (by omega) hl3 hok hn (by omega) (by omega) hw4 ?_))
              intro f4 h hf4 hl4 hw
              have hIv4 := hI s2 A3 F2 B2 f4 hIv3
              have hok4 : lk_ok n (lk_fold l (i + 1) w) := lk_fold_ok hok (by omega) (by omega)
              have hr4 : mo_rw ((va_up A3 19 f4) 25) (r ++ [c]) := by rw [va_up_n A3 f4 (by decide)]; exact hr3
              have hgx4 : mo_gx (fm + r.length) fm A (va_up A3 19 f4) F F2 B B2 := by
                refine ⟨fun k q a b => by rw [va_up_n A3 _ a]; exact hgx3.1 k q a b, hgx3.2.1, hgx3.2.2.1, fun i q => by rw [va_up_s, hf4 i q]; exact hgx3.2.2.2.1 i q, fun i q => by rw [va_up_n A3 _ (by decide)]; exact hgx3.2.2.2.2.1 i q, by rw [va_up_n A3 _ (by decide)]; exact hgx3.2.2.2.2.2⟩
              have hl4 : mo_lk ((va_up A3 19 f4) 19) (fm + (r ++ [c]).length) (lk_fold l (i + 1) w) := by
                rw [va_up_s, show fm + (r ++ [c]).length = fm + r.length + 1 by simp; omega]; exact hl4
              generalize va_up A3 19 f4 = A4 at *
              have hst : lv_left left l r (4 * i + w) = (lv_lev left (lk_fold l (i + 1) w)).map (fun q => ((r ++ [c]) ++ q.1, q.2)) ++ lv_left left l r (4 * i + (w + 1)) := by
                have e := lv_left_s left l r (j := 4 * i + w) (by omega)
                rw [show (4 * i + w) / 4 = i by omega, show (4 * i + w) % 4 = w by omega, hcc, show c / 10 = i + 1 by omega, show c % 10 = w by omega] at e
                exact e
              rw [hst, lv_go_app] at he
              rw [hst] at hB2
              have hB3 := lv_B_app see Bd _ _ s2 hB2
              refine nd_aload_n hC dX7_goes_56 rfl rfl ?_
              refine nd_iload_n hC dX7_goes_57 rfl ?_
              refine nd_iconst hC (v := nI 1) (by rfl) dX7_goes_58 ?_
              first | with_reducible refine nd_iaddN hC dX7_goes_59 ?_ | refine nd_iadd hC dX7_goes_59 ?_
              refine nd_iload_n hC dX7_goes_60 rfl ?_
              refine nd_iconst hC (v := nI 1) (by rfl) dX7_goes_61 ?_
              first | with_reducible refine nd_isubN hC (by omega) dX7_goes_62 ?_ | refine nd_isub hC dX7_goes_62 ?_
              refine mo_callV (As := [_, _]) (d2 := d - 1) hC hw rfl lkX7_422 lyX7_422 (Nat.le_of_ble_eq_true rfl) (by omega) rfl (by exact Nat.le_of_ble_eq_true rfl) (Nat.zero_le _) (Nat.zero_le _) dX7_goes_63 rfl (?_)
              rw [show left + 1 - 1 = left from rfl, show fm + r.length + 1 = fm + (r ++ [c]).length by simp; omega]
              refine ihL (d - 1) s2 (r ++ [c]) (lk_fold l (i + 1) w) A4 F2 B2 h _ (by omega) hB3.1 hIv4 hw hl4 hok4 hr4 hF2 (by simp; omega) ?_
              intro A5 F5 B5 h hIv5 hgx5 hw
              have hgx5 : mo_gx (fm + r.length) fm A4 A5 F2 F5 B2 B5 := by
                rw [show fm + (r ++ [c]).length = fm + r.length + 1 by simp; omega] at hgx5
                exact hgx5.weak
              have hgx6 := hgx4.trans hgx5
              generalize lv_go see s2 ((lv_lev left (lk_fold l (i + 1) w)).map (fun q => ((r ++ [c]) ++ q.1, q.2))) = G at *
              first | with_reducible refine nd_if_eqB hC (tgt := 71) dX7_goes_66 (by decide) (fun hc => ?_) (fun hc => ?_) | with_reducible refine nd_if_eqN hC (tgt := 71) (by omega) dX7_goes_66 (by decide) (fun hc => ?_) (fun hc => ?_) | refine nd_if_eq hC (tgt := 71) dX7_goes_66 (by decide) (fun hc => ?_) (fun hc => ?_)
              · rw [if_neg (by rw [hc]; decide)] at he
                first | with_reducible refine nd_iincN hC dX7_goes_71 rfl (Nat.le_of_ble_eq_true rfl) ?_ | refine nd_iinc hC dX7_goes_71 rfl rfl (Nat.le_of_ble_eq_true rfl) ?_
                refine nd_goto hC (tgt := 24) dX7_goes_74 (by decide) ?_
                exact ih2 G.1 A5 F5 B5 h (hB3.2 hc) hIv5 hgx6 hw he
              · rw [if_pos hc] at he
                rw [← he, hc] at hk
                refine nd_iconst hC (v := nI 1) (by rfl) dX7_goes_69 ?_
                refine nd_ireturn hC rfl (by first | rfl | exact nd_b_nar _) (by omega) (by omega) dX7_goes_70 ((hk A5 F5 B5 h hIv5 hgx6 hw))
          exact L2 0 (by omega) s2 A2 F2 B2 h hB2 hIv2 hgx hw he
      exact L 0 (Nat.zero_le _) s A F B h hB hIv mo_gx.rfl hw rfl
    · omega
end MO9

