/-! ===== plain laws: rows that look as seen ===== -/
noncomputable def sn_sure (l : List (List Nat)) (s : Int32) : Nat → Int32
  | 0 => s
  | k + 1 => if lk_cr l k = 0 then sn_sure l s k &&& ((nI 1 <<< (nI k &&& 31)) ^^^ (-1)) else sn_sure l s k
def sn_bh (fr bk : Nat → Int32) (l : List (List Nat)) (f : Nat → Int32) : Nat → Nat → Int32
  | 0 => f
  | k + 1 => upd (sn_bh fr bk l f k) (100 * k + (lk_mk fr bk (lk_bot (l.getD k []))).toNatClampNeg) (sn_bh fr bk l f k (100 * k + (lk_mk fr bk (lk_bot (l.getD k []))).toNatClampNeg) + nI 1)
/-- marks are 0 to 99 -/
def mk_ok (fr bk : Nat → Int32) (n : Nat) : Prop := ∀ c, c < n → (∃ j, j < 100 ∧ fr c = nI j) ∧ ∃ j, j < 100 ∧ bk c = nI j
theorem mk_in {fr bk : Nat → Int32} {n : Nat} (h : mk_ok fr bk n) {x : Nat} (hx : x / 2 < n) : ∃ j, j < 100 ∧ lk_mk fr bk x = nI j := by
  unfold lk_mk
  split
  · exact (h _ hx).1
  · exact (h _ hx).2
theorem lk_bot_half {n : Nat} {l : List (List Nat)} (h : lk_ok n l) (hn : n ≤ 6) {t : Nat} (ht : t < l.length) : lk_bot (l.getD t []) / 2 < n := by
  have e : ∀ x : Nat, (x ^^^ 1) / 2 = x / 2 := fun x => by
    have := Nat.xor_div_two_pow (a := x) (b := 1) (n := 1)
    simpa using this
  unfold lk_bot
  rw [e]
  refine lk_half_lt h (x := (l.getD t []).getD 0 0) (t := t) (i := 0) ⟨ht, ?_, rfl⟩
  rw [List.getD_eq_getElem?_getD, List.getElem?_eq_getElem ht]
  exact List.length_pos_iff.mpr (h.2 _ (List.getElem_mem ht))
theorem lk_top_half {n : Nat} {l : List (List Nat)} (h : lk_ok n l) (hn : n ≤ 6) {t : Nat} (ht : t < l.length) : lk_top (l.getD t []) / 2 < n := by
  have hp : 0 < (l.getD t []).length := by
    rw [List.getD_eq_getElem?_getD, List.getElem?_eq_getElem ht]
    exact List.length_pos_iff.mpr (h.2 _ (List.getElem_mem ht))
  exact lk_half_lt h (x := (l.getD t []).getD ((l.getD t []).length - 1) 0) (t := t) (i := (l.getD t []).length - 1) ⟨ht, by omega, rfl⟩

