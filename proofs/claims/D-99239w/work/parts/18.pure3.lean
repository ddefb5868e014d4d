/-! ===== plain laws: a law's steps ===== -/
def lw_bd (v : Int64) : Int32 := (if (if v < lN 1000000 then v else lN 1000000) < (-1000000) then (-1000000) else (if v < lN 1000000 then v else lN 1000000) : Int64).toInt32
def lw_dn (c : Nat) (a b : Int64) : Int32 :=
  if c = 10 then lw_bd (a + b) else if c = 11 then lw_bd (a - b) else if c = 12 then lw_bd (a * b) else if c = 13 then nd_b (decide (a = b)) else if c = 14 then nd_b (decide (a < b)) else if c = 15 then nd_b (decide (b < a)) else if c = 16 then nd_b (decide (lN 1 < a + b)) else nd_b (decide (lN 0 < a + b))
/-- one step on the stack, its top first -/
def lw_st (ask : Nat → Int32) (s : List Int32) (c : Nat) : List Int32 :=
  if 1000 ≤ c then nI (c - 1000) :: s else if 100 ≤ c then ask (c - 100) :: s else if c = 18 then (match s with
    | x :: t => (nI 1 - x) :: t
    | [] => []) else (match s with
    | b :: a :: t => lw_dn c a.toInt64 b.toInt64 :: t
    | t => t)
def lw_ev (ask : Nat → Int32) (p : List Nat) (s : List Int32) : List Int32 := p.foldl (lw_st ask) s
/-- steps that leave one number, from n; words below m; plain numbers to 999 -/
def lw_wf (m n : Nat) (p : List Nat) : Prop := match p with
  | [] => n = 1
  | c :: t => if 1000 ≤ c then c < 2000 ∧ n < 64 ∧ lw_wf m (n + 1) t else if 100 ≤ c then c < 100 + m ∧ n < 64 ∧ lw_wf m (n + 1) t else if c = 18 then 1 ≤ n ∧ lw_wf m n t else (10 ≤ c ∧ c ≤ 17) ∧ 2 ≤ n ∧ lw_wf m (n - 1) t
theorem lw_ev_congr {a b : Nat → Int32} {m : Nat} (h : ∀ k, k < m → a k = b k) (p : List Nat) : ∀ n s, lw_wf m n p → lw_ev a p s = lw_ev b p s := by
  induction p with
  | nil => intro n s _; rfl
  | cons c t ih =>
    intro n s hw
    unfold lw_wf at hw
    show lw_ev a t (lw_st a s c) = lw_ev b t (lw_st b s c)
    unfold lw_st
    by_cases h1 : 1000 ≤ c
    · simp only [h1, if_true] at hw ⊢
      exact ih _ _ hw.2.2
    · by_cases h2 : 100 ≤ c
      · simp only [h1, h2, if_true, if_false] at hw ⊢
        rw [h (c - 100) (by omega)]
        exact ih _ _ hw.2.2
      · by_cases h3 : c = 18
        · simp only [h1, h2, h3, if_true, if_false] at hw ⊢
          exact ih _ _ hw.2
        · simp only [h1, h2, h3, if_false] at hw ⊢
          exact ih _ _ hw.2.2
/-- what a law is asked about -/
def lw_ask (fr bk : Nat → Int32) (n : Nat) (l : List (List Nat)) (folds : Nat) : Nat → Int32 := fun k => match k with
  | 0 => nI l.length
  | 1 => nI (lk_hi l l.length)
  | 2 => nI folds
  | 3 => lk_tops fr bk l
  | 4 => lk_unders fr bk l
  | _ => lk_all fr bk n - lk_tops fr bk l - lk_unders fr bk l
/-- .. and of a guest and his wish -/
def lw_ask2 (fr bk : Nat → Int32) (n : Nat) (l : List (List Nat)) (folds guest : Nat) (want : Int32) : Nat → Int32 := fun k => if k = 7 then want else if k = 6 then nI guest else lw_ask fr bk n l folds k
/-- a law's number (0 where there is none) -/
def lw_val (ask : Nat → Int32) (p : List Nat) : Int32 := if p = [] then nI 0 else (lw_ev ask p []).headD 0

