section
section
variable {post : Int32 → Prop} {f0 : Int32} {a1 a2 a3 a4 a5 a6 a7 : Nat → Int32}
/-- a loop over the rows from x4 on: x3 and one for each row longer than x2 (hook's loop, and turned's inner one) -/
def td_hook (a1 : Nat → Int32) (x2 : Int32) : Nat → Int32 → Int32 → Option Int32
  | 0, _, _ => none
  | n + 1, x3, x4 =>
    if 3 ≤ x4 then some x3
    else if x4 < 0 ∨ 3 ≤ x4.toNatClampNeg then none
    else if a1 x4.toNatClampNeg ≤ x2 then td_hook a1 x2 n (x3 + 0) (x4 + 1)
    else td_hook a1 x2 n (x3 + 1) (x4 + 1)
/-- one row of orders: n, all and hooks behind it -/
def td_o18 (a1 : Nat → Int32) (x4 : Int32) : Nat → Int32 → Int32 → Int32 → Int32 → Option (Int32 × Int32 × Int32)
  | 0, _, _, _, _ => none
  | n + 1, x1, x2, x3, x5 =>
    if x4 < 0 ∨ 3 ≤ x4.toNatClampNeg then none
    else if a1 x4.toNatClampNeg ≤ x5 then some (x1, x2, x3)
    else match td_hook a1 x5 4 (a1 x4.toNatClampNeg - x5) (x4 + 1) with
      | none => none
      | some r => td_o18 a1 x4 n (x1 + 1) (x2 * (x1 + 1)) (x3 * r) (x5 + 1)
/-- orders: the rows from x4 on -/
def td_o9 (a1 : Nat → Int32) : Nat → Int32 → Int32 → Int32 → Int32 → Option Int32
  | 0, _, _, _, _ => none
  | n + 1, x1, x2, x3, x4 =>
    if 3 ≤ x4 then (if x3 = 0 then none else some (x2 / x3))
    else match td_o18 a1 x4 8 x1 x2 x3 0 with
      | none => none
      | some y => td_o9 a1 n y.1 y.2.1 y.2.2 (x4 + 1)
/-- turned: the columns from x2 on -/
def td_t16 (a1 : Nat → Int32) : Nat → Int32 → Int32 → Option Int32
  | 0, _, _ => none
  | n + 1, x1, x2 =>
    if 3 ≤ x2 then some x1
    else match td_hook a1 x2 4 0 0 with
      | none => none
      | some c => td_t16 a1 n (10 * x1 + c) (x2 + 1)
def td_turned (a1 : Nat → Int32) : Option Int32 := if a1 0 ≤ 3 then td_t16 a1 4 0 0 else some (-1)
def td_fill (a1 : Nat → Int32) : Int32 := ((((a1 0) - (a1 1)) + 1) * (((a1 1) - (a1 2)) + 1) * (((a1 0) - (a1 2)) + 2)) / 2
def td_size (p0 : Int32) : Int32 := ((p0 / 100) + ((p0 / 10) - (p0 / 10) / 10 * 10)) + (p0 - p0 / 10 * 10)
def td_isS (p0 : Int32) : Int32 :=
  if p0 < 0 then 0 else if p0 ≤ 600 then
    (if (p0 / 100) < (p0 / 10) - (p0 / 10) / 10 * 10 then 0
     else if (p0 / 10) - (p0 / 10) / 10 * 10 < (p0 - p0 / 10 * 10) then 0
     else if 6 < td_size p0 then 0 else 1)
  else 0
def td_isC (p0 : Int32) : Int32 :=
  if p0 < 0 then 0 else if 666 < p0 then 0 else if 6 < ((p0 / 10) - (p0 / 10) / 10 * 10) then 0 else if 6 < (p0 - p0 / 10 * 10) then 0 else 1
/-- withContent's loop -/
def td_wc (a1 : Nat → Int32) (x2 x3 : Int32) : Nat → Int32 → Int32 → Option Int32
  | 0, _, _ => none
  | n + 1, x4, x5 =>
    if a1 0 < x5 then some x4
    else if (x2 + x3) - x5 < a1 2 then td_wc a1 x2 x3 n (x4 + 0) (x5 + 1)
    else if a1 1 < (x2 + x3) - x5 then td_wc a1 x2 x3 n (x4 + 0) (x5 + 1)
    else if x2 < (x2 + x3) - x5 then td_wc a1 x2 x3 n (x4 + 0) (x5 + 1)
    else if x5 < x2 then td_wc a1 x2 x3 n (x4 + 0) (x5 + 1)
    else td_wc a1 x2 x3 n (x4 + 1) (x5 + 1)
def td_with (a1 : Nat → Int32) (p0 : Int32) : Option Int32 :=
  if td_isC p0 = 0 then some (-1)
  else if (((p0 / 100) + ((p0 / 10) - (p0 / 10) / 10 * 10)) + (p0 - p0 / 10 * 10)) = (((a1 0) + (a1 1)) + (a1 2)) then
    td_wc a1 (p0 / 100) ((p0 / 10) - (p0 / 10) / 10 * 10) 9 0 (a1 1)
  else some 0
/-- what the desk keeps of a shape -/
def td_k (s : Int32) : Nat → Int32 := upd (upd (upd (fun _ => 0) 0 (s / 100)) 1 ((s / 10) - (s / 10) / 10 * 10)) 2 (s - s / 10 * 10)
theorem td_n100 : ¬ (100 : Int32) = 0 := by decide
theorem td_n10 : ¬ (10 : Int32) = 0 := by decide
theorem td_n7 : ¬ (7 : Int32) = 0 := by decide
theorem td_n4 : ¬ (4 : Int32) = 0 := by decide
theorem td_n2 : ¬ (2 : Int32) = 0 := by decide
theorem td_n1 : ¬ (1 : Int32) = 0 := by decide
theorem td_so {α : Type} {P : α → Prop} {x r : α} (h : some x = some r) (hp : P r) : P x := by
  injection h with e
  rw [e]
  exact hp
theorem td_hook_ok {x2 : Int32} : ∀ (n : Nat) (x3 x4 r : Int32), td_hook a1 x2 n x3 x4 = some r → post r → wX_hook_14 post x2 f0 a1 a2 a3 a4 a5 a6 a7 n x3 x4 := by
  intro n
  induction n with
  | zero =>
    intro x3 x4 r h hp
    rw [td_hook] at h
    exact nomatch h
  | succ n ih =>
    intro x3 x4 r h hp
    rw [td_hook] at h
    by_cases c1 : 3 ≤ x4
    · rw [if_pos c1] at h
      exact br_t c1 (td_so (P := post) h hp)
    · rw [if_neg c1] at h
      by_cases c2 : x4 < 0 ∨ 3 ≤ x4.toNatClampNeg
      · rw [if_pos c2] at h
        exact nomatch h
      · rw [if_neg c2] at h
        by_cases c3 : a1 x4.toNatClampNeg ≤ x2
        · rw [if_pos c3] at h
          exact br_f c1 (And.intro c2 (br_t c3 (nm_e (nm_e (ih _ _ _ h hp)))))
        · rw [if_neg c3] at h
          exact br_f c1 (And.intro c2 (br_f c3 (nm_e (nm_e (ih _ _ _ h hp)))))
theorem td_hook_w {p0 p1 r : Int32} (hi : ¬ (p0 < 0 ∨ 3 ≤ p0.toNatClampNeg)) (h : td_hook a1 p1 4 (a1 p0.toNatClampNeg - p1) (p0 + 1) = some r) (hp : post r) : wpX_hook post (f0, a1, a2, a3, a4, a5, a6, a7) p0 p1 := by
  unfold wpX_hook
  exact And.intro hi (nm_e (nm_e (Exists.intro 4 (td_hook_ok 4 _ _ r h hp))))
theorem td_o18_ok {J9 : Int32 → Int32 → Int32 → Int32 → Prop} {x4 : Int32} : ∀ (n : Nat) (x1 x2 x3 x5 : Int32) (y : Int32 × Int32 × Int32), td_o18 a1 x4 n x1 x2 x3 x5 = some y → J9 y.1 y.2.1 y.2.2 (x4 + 1) → wX_orders_18 post J9 x4 f0 a1 a2 a3 a4 a5 a6 a7 n x1 x2 x3 x5 := by
  intro n
  induction n with
  | zero =>
    intro x1 x2 x3 x5 y h hp
    rw [td_o18] at h
    exact nomatch h
  | succ n ih =>
    intro x1 x2 x3 x5 y h hp
    rw [td_o18] at h
    by_cases c2 : x4 < 0 ∨ 3 ≤ x4.toNatClampNeg
    · rw [if_pos c2] at h
      exact nomatch h
    · rw [if_neg c2] at h
      by_cases c3 : a1 x4.toNatClampNeg ≤ x5
      · rw [if_pos c3] at h
        have hj : J9 x1 x2 x3 (x4 + 1) := td_so (P := fun y => J9 y.1 y.2.1 y.2.2 (x4 + 1)) h hp
        exact And.intro c2 (br_t c3 (nm_e hj))
      · rw [if_neg c3] at h
        cases hk : td_hook a1 x5 4 (a1 x4.toNatClampNeg - x5) (x4 + 1) with
        | none =>
          rw [hk] at h
          exact nomatch h
        | some r =>
          rw [hk] at h
          dsimp only at h
          have hw := ih _ _ _ _ _ h hp
          exact And.intro c2 (br_f c3 (nm_e (nm_e (td_hook_w c2 hk (nm_e (nm_e hw))))))
theorem td_o9_ok : ∀ (n : Nat) (x1 x2 x3 x4 r : Int32), td_o9 a1 n x1 x2 x3 x4 = some r → post r → wX_orders_9 post f0 a1 a2 a3 a4 a5 a6 a7 n x1 x2 x3 x4 := by
  intro n
  induction n with
  | zero =>
    intro x1 x2 x3 x4 r h hp
    rw [td_o9] at h
    exact nomatch h
  | succ n ih =>
    intro x1 x2 x3 x4 r h hp
    rw [td_o9] at h
    by_cases c1 : 3 ≤ x4
    · rw [if_pos c1] at h
      by_cases c2 : x3 = 0
      · rw [if_pos c2] at h
        exact nomatch h
      · rw [if_neg c2] at h
        exact br_t c1 (And.intro c2 (td_so (P := post) h hp))
    · rw [if_neg c1] at h
      cases hk : td_o18 a1 x4 8 x1 x2 x3 0 with
      | none =>
        rw [hk] at h
        exact nomatch h
      | some y =>
        rw [hk] at h
        dsimp only at h
        exact br_f c1 (Exists.intro 8 (td_o18_ok 8 _ _ _ _ y hk (ih _ _ _ _ r h hp)))
theorem td_orders_w {r : Int32} (h : td_o9 a1 4 0 1 1 0 = some r) (hp : post r) : wpX_orders post (f0, a1, a2, a3, a4, a5, a6, a7) := by
  unfold wpX_orders
  exact Exists.intro 4 (td_o9_ok 4 _ _ _ _ r h hp)
theorem td_t26_ok {J16 : Int32 → Int32 → Prop} {x1 x2 : Int32} : ∀ (n : Nat) (x3 x4 r : Int32), td_hook a1 x2 n x3 x4 = some r → J16 (10 * x1 + r) (x2 + 1) → wX_turned_26 post J16 x1 x2 f0 a1 a2 a3 a4 a5 a6 a7 n x3 x4 := by
  intro n
  induction n with
  | zero =>
    intro x3 x4 r h hp
    rw [td_hook] at h
    exact nomatch h
  | succ n ih =>
    intro x3 x4 r h hp
    rw [td_hook] at h
    by_cases c1 : 3 ≤ x4
    · rw [if_pos c1] at h
      have hj : J16 (10 * x1 + x3) (x2 + 1) := td_so (P := fun y => J16 (10 * x1 + y) (x2 + 1)) h hp
      exact br_t c1 (nm_e (nm_e hj))
    · rw [if_neg c1] at h
      by_cases c2 : x4 < 0 ∨ 3 ≤ x4.toNatClampNeg
      · rw [if_pos c2] at h
        exact nomatch h
      · rw [if_neg c2] at h
        by_cases c3 : a1 x4.toNatClampNeg ≤ x2
        · rw [if_pos c3] at h
          exact br_f c1 (And.intro c2 (br_t c3 (nm_e (nm_e (ih _ _ _ h hp)))))
        · rw [if_neg c3] at h
          exact br_f c1 (And.intro c2 (br_f c3 (nm_e (nm_e (ih _ _ _ h hp)))))
theorem td_t16_ok : ∀ (n : Nat) (x1 x2 r : Int32), td_t16 a1 n x1 x2 = some r → post r → wX_turned_16 post f0 a1 a2 a3 a4 a5 a6 a7 n x1 x2 := by
  intro n
  induction n with
  | zero =>
    intro x1 x2 r h hp
    rw [td_t16] at h
    exact nomatch h
  | succ n ih =>
    intro x1 x2 r h hp
    rw [td_t16] at h
    by_cases c1 : 3 ≤ x2
    · rw [if_pos c1] at h
      exact br_t c1 (td_so (P := post) h hp)
    · rw [if_neg c1] at h
      cases hk : td_hook a1 x2 4 0 0 with
      | none =>
        rw [hk] at h
        exact nomatch h
      | some c =>
        rw [hk] at h
        dsimp only at h
        exact br_f c1 (Exists.intro 4 (td_t26_ok 4 _ _ c hk (ih _ _ r h hp)))
theorem td_turned_w {r : Int32} (h : td_turned a1 = some r) (hp : post r) : wpX_turned post (f0, a1, a2, a3, a4, a5, a6, a7) := by
  unfold wpX_turned
  unfold td_turned at h
  by_cases c : a1 0 ≤ 3
  · rw [if_pos c] at h
    exact br_t c (Exists.intro 4 (td_t16_ok 4 _ _ r h hp))
  · rw [if_neg c] at h
    exact br_f c (td_so (P := post) h hp)
theorem td_fill_w (hp : post (td_fill a1)) : wpX_fillings post (f0, a1, a2, a3, a4, a5, a6, a7) := by
  unfold wpX_fillings
  exact nm_e (And.intro td_n2 hp)
theorem td_size_w {p0 : Int32} (hp : post (td_size p0)) : wpX_size post () p0 := by
  unfold wpX_size
  exact And.intro td_n100 (And.intro td_n10 (And.intro td_n10 (And.intro td_n10 hp)))
theorem td_isS_w {p0 : Int32} (hp : post (td_isS p0)) : wpX_isShape post () p0 := by
  unfold wpX_isShape
  unfold td_isS at hp
  refine br_c (fun h => ?_) (fun h => ?_)
  · rw [if_pos h] at hp
    exact hp
  · rw [if_neg h] at hp
    refine br_c (fun h2 => ?_) (fun h2 => ?_)
    · rw [if_pos h2] at hp
      refine And.intro td_n10 (And.intro td_n10 (nm_e (And.intro td_n100 ?_)))
      refine br_c (fun h3 => ?_) (fun h3 => And.intro td_n10 ?_)
      · rw [if_pos h3] at hp
        exact hp
      · rw [if_neg h3] at hp
        refine br_c (fun h4 => ?_) (fun h4 => ?_)
        · rw [if_pos h4] at hp
          exact hp
        · rw [if_neg h4] at hp
          refine td_size_w ?_
          refine br_c (fun h5 => ?_) (fun h5 => ?_)
          · rw [if_pos h5] at hp
            exact hp
          · rw [if_neg h5] at hp
            exact hp
    · rw [if_neg h2] at hp
      exact hp
theorem td_isC_w {p0 : Int32} (hp : post (td_isC p0)) : wpX_isContent post () p0 := by
  unfold wpX_isContent
  unfold td_isC at hp
  refine br_c (fun h => ?_) (fun h => ?_)
  · rw [if_pos h] at hp
    exact hp
  · rw [if_neg h] at hp
    refine br_c (fun h2 => ?_) (fun h2 => And.intro td_n10 (And.intro td_n10 ?_))
    · rw [if_pos h2] at hp
      exact hp
    · rw [if_neg h2] at hp
      refine br_c (fun h3 => ?_) (fun h3 => And.intro td_n10 ?_)
      · rw [if_pos h3] at hp
        exact hp
      · rw [if_neg h3] at hp
        refine br_c (fun h4 => ?_) (fun h4 => ?_)
        · rw [if_pos h4] at hp
          exact hp
        · rw [if_neg h4] at hp
          exact hp
theorem td_wc_ok {x2 x3 : Int32} : ∀ (n : Nat) (x4 x5 r : Int32), td_wc a1 x2 x3 n x4 x5 = some r → post r → wX_withContent_66 post x2 x3 f0 a1 a2 a3 a4 a5 a6 a7 n x4 x5 := by
  intro n
  induction n with
  | zero =>
    intro x4 x5 r h hp
    rw [td_wc] at h
    exact nomatch h
  | succ n ih =>
    intro x4 x5 r h hp
    rw [td_wc] at h
    by_cases c1 : a1 0 < x5
    · rw [if_pos c1] at h
      exact br_t c1 (td_so (P := post) h hp)
    · rw [if_neg c1] at h
      have F : ∀ {x6 : Int32}, td_wc a1 x2 x3 n (x4 + 0) (x5 + 1) = some r → wX_withContent_112 post (wX_withContent_66 post x2 x3 f0 a1 a2 a3 a4 a5 a6 a7 n) x2 x3 x4 x5 x6 0 f0 a1 a2 a3 a4 a5 a6 a7 := by
        intro x6 h
        unfold wX_withContent_112
        exact br_t rfl (nm_e (nm_e (ih _ _ r h hp)))
      refine br_f c1 (nm_e ?_)
      by_cases c2 : (x2 + x3) - x5 < a1 2
      · rw [if_pos c2] at h
        exact br_t c2 (F h)
      · rw [if_neg c2] at h
        refine br_f c2 ?_
        by_cases c3 : a1 1 < (x2 + x3) - x5
        · rw [if_pos c3] at h
          exact br_t c3 (F h)
        · rw [if_neg c3] at h
          refine br_f c3 ?_
          unfold wX_withContent_112
          refine br_f td_n1 ?_
          by_cases c4 : x2 < (x2 + x3) - x5
          · rw [if_pos c4] at h
            exact br_t c4 (nm_e (nm_e (ih _ _ r h hp)))
          · rw [if_neg c4] at h
            refine br_f c4 ?_
            by_cases c5 : x5 < x2
            · rw [if_pos c5] at h
              exact br_t c5 (nm_e (nm_e (ih _ _ r h hp)))
            · rw [if_neg c5] at h
              exact br_f c5 (nm_e (nm_e (ih _ _ r h hp)))
theorem td_with_w {p0 r : Int32} (h : td_with a1 p0 = some r) (hp : post r) : wpX_withContent post (f0, a1, a2, a3, a4, a5, a6, a7) p0 := by
  unfold wpX_withContent
  unfold td_with at h
  refine td_isC_w ?_
  by_cases c : td_isC p0 = 0
  · rw [if_pos c] at h
    exact br_t c (td_so (P := post) h hp)
  · rw [if_neg c] at h
    refine br_f c (And.intro td_n100 (nm_e (And.intro td_n10 (And.intro td_n10 (nm_e (And.intro td_n10 ?_))))))
    by_cases c2 : (((p0 / 100) + ((p0 / 10) - (p0 / 10) / 10 * 10)) + (p0 - p0 / 10 * 10)) = (((a1 0) + (a1 1)) + (a1 2))
    · rw [if_pos c2] at h
      exact br_t c2 (nm_e (Exists.intro 9 (td_wc_ok 9 _ _ r h hp)))
    · rw [if_neg c2] at h
      exact br_f c2 (td_so (P := post) h hp)
theorem td_keep_w {q : Int32 → St2 → Prop} {p0 : Int32} (h : td_isS p0 = 1) (hp : q (td_size p0) (f0, td_k p0, a2, a3, a4, a5, a6, a7)) : wpX_keep q (f0, (fun _ => 0), a2, a3, a4, a5, a6, a7) p0 := by
  unfold wpX_keep
  refine td_isS_w ?_
  rw [h]
  refine br_f td_n1 (And.intro td_n100 (nm_e (And.intro td_n10 (And.intro td_n10 (nm_e (And.intro td_n10 (nm_e ?_)))))))
  exact td_size_w hp
end
end
section
/-- the shape that the law keeps, by down and n -/
def td_sh (x5 x6 : Int32) : Int32 := if x5 = 0 then 100 * x6 else if x6 = 0 then 0 else if x6 = 1 then 100 else if x6 = 2 then 110 else 111
/-- the law's all -/
def td_all (x5 x6 : Int32) : Int32 := if x5 = 0 then ((x6 + 1) * (x6 + 2)) / 2 else if x6 = 0 then 1 else if x6 = 3 then 1 else 3
/-- the law's one -/
def td_one (x5 x9 x10 x11 : Int32) : Int32 := if x11 < 0 then 0 else if x5 = 0 then 1 else if 1 < x9 then 0 else if 1 < x10 then 0 else if 1 < x11 then 0 else 1
/-- the law's turned -/
def td_tu (x5 x6 : Int32) : Int32 := if x6 ≤ 3 then (if x5 = 0 then (if x6 = 0 then 0 else if x6 = 1 then 100 else if x6 = 2 then 110 else 111) else 100 * x6) else (-1)
/-- an answer is there and is r -/
def td_is (x : Option Int32) (r : Int32) : Bool := match x with
  | none => false
  | some y => decide (y = r)
theorem td_is_e {x : Option Int32} {r : Int32} (h : td_is x r = true) : x = some r := by
  cases x with
  | none => exact nomatch h
  | some y => exact congrArg some (of_decide_eq_true h)
/-- what the law asks of a shape alone -/
def td_b1 (x5 x6 : Int32) : Bool :=
  decide (td_isS (td_sh x5 x6) = 1) && (decide (td_size (td_sh x5 x6) = x6) && (td_is (td_o9 (td_k (td_sh x5 x6)) 4 0 1 1 0) 1
  && (decide (td_fill (td_k (td_sh x5 x6)) = td_all x5 x6) && (td_is (td_turned (td_k (td_sh x5 x6))) (td_tu x5 x6) && td_is (td_with (td_k (td_sh x5 x6)) 7) (-1)))))
/-- what it asks of a shape and a content -/
def td_b2 (x5 x6 x9 x10 : Int32) : Bool :=
  decide ((x6 - x9) - x10 < 0) || td_is (td_with (td_k (td_sh x5 x6)) (((100 * x9) + (10 * x10)) + ((x6 - x9) - x10))) (td_one x5 x9 x10 ((x6 - x9) - x10))
theorem td_q10 : ∀ n, n < 7 → td_b1 (nI 0) (nI n) = true := by decide +kernel
theorem td_q11 : ∀ n, n < 4 → td_b1 (nI 1) (nI n) = true := by decide +kernel
theorem td_q20 : ∀ n, n < 7 → ∀ a, a < 7 → ∀ b, b < 7 → td_b2 (nI 0) (nI n) (nI a) (nI b) = true := by decide +kernel
theorem td_q21 : ∀ n, n < 4 → ∀ a, a < 7 → ∀ b, b < 7 → td_b2 (nI 1) (nI n) (nI a) (nI b) = true := by decide +kernel
theorem td_T1 {d n : Nat} (hd : d < 2) (hn : n < 7) (hdn : d = 0 ∨ n < 4) :
    td_isS (td_sh (nI d) (nI n)) = 1 ∧ td_size (td_sh (nI d) (nI n)) = nI n ∧ td_o9 (td_k (td_sh (nI d) (nI n))) 4 0 1 1 0 = some 1
    ∧ td_fill (td_k (td_sh (nI d) (nI n))) = td_all (nI d) (nI n) ∧ td_turned (td_k (td_sh (nI d) (nI n))) = some (td_tu (nI d) (nI n))
    ∧ td_with (td_k (td_sh (nI d) (nI n))) 7 = some (-1) := by
  have h : td_b1 (nI d) (nI n) = true := by
    rcases (show d = 0 ∨ d = 1 by omega) with e | e
    · rw [e]
      exact td_q10 n hn
    · rw [e]
      exact td_q11 n (by omega)
  unfold td_b1 at h
  obtain ⟨h1, h⟩ := Bool.and_eq_true_iff.mp h
  obtain ⟨h2, h⟩ := Bool.and_eq_true_iff.mp h
  obtain ⟨h3, h⟩ := Bool.and_eq_true_iff.mp h
  obtain ⟨h4, h⟩ := Bool.and_eq_true_iff.mp h
  obtain ⟨h5, h6⟩ := Bool.and_eq_true_iff.mp h
  exact ⟨of_decide_eq_true h1, of_decide_eq_true h2, td_is_e h3, of_decide_eq_true h4, td_is_e h5, td_is_e h6⟩
theorem td_T2 {d n a b : Nat} (hd : d < 2) (hn : n < 7) (hdn : d = 0 ∨ n < 4) (ha : a < 7) (hb : b < 7) :
    ((nI n - nI a) - nI b < 0 ∨ td_with (td_k (td_sh (nI d) (nI n))) (((100 * nI a) + (10 * nI b)) + ((nI n - nI a) - nI b)) = some (td_one (nI d) (nI a) (nI b) ((nI n - nI a) - nI b))) := by
  have h : td_b2 (nI d) (nI n) (nI a) (nI b) = true := by
    rcases (show d = 0 ∨ d = 1 by omega) with e | e
    · rw [e]
      exact td_q20 n hn a ha b hb
    · rw [e]
      exact td_q21 n (by omega) a ha b hb
  unfold td_b2 at h
  rcases Bool.or_eq_true_iff.mp h with h | h
  · exact Or.inl (of_decide_eq_true h)
  · exact Or.inr (td_is_e h)
theorem td_one_c (x5 x9 x10 x11 : Int32) : td_one x5 x9 x10 x11 = 0 ∨ td_one x5 x9 x10 x11 = 1 := by
  unfold td_one
  by_cases c1 : x11 < 0
  · rw [if_pos c1]
    exact Or.inl rfl
  · rw [if_neg c1]
    by_cases c2 : x5 = 0
    · rw [if_pos c2]
      exact Or.inr rfl
    · rw [if_neg c2]
      by_cases c3 : 1 < x9
      · rw [if_pos c3]
        exact Or.inl rfl
      · rw [if_neg c3]
        by_cases c4 : 1 < x10
        · rw [if_pos c4]
          exact Or.inl rfl
        · rw [if_neg c4]
          by_cases c5 : 1 < x11
          · rw [if_pos c5]
            exact Or.inl rfl
          · rw [if_neg c5]
            exact Or.inr rfl
end
section
section
variable {post : Int32 → St0 → Prop} {mc ms kc ks : Nat} {f0 : Int32} {a1 a2 a3 a4 a5 a6 a7 : Nat → Int32}
theorem td_319 {z0 : Int32} (ht : td_turned a1 = some z0) (hw : td_with a1 7 = some (-1)) (hp : post 1 ()) : wL_lawOf_319 post mc ms z0 kc ks f0 a1 a2 a3 a4 a5 a6 a7 := by
  unfold wL_lawOf_319
  refine td_turned_w ht ?_
  refine br_t rfl ?_
  refine td_with_w hw ?_
  exact br_t rfl hp
theorem td_263 {x5 x6 : Int32} (H : wL_lawOf_319 post mc ms (td_tu x5 x6) kc ks f0 a1 a2 a3 a4 a5 a6 a7) : wL_lawOf_263 post mc ms x5 x6 kc ks f0 a1 a2 a3 a4 a5 a6 a7 := by
  unfold wL_lawOf_263
  unfold td_tu at H
  refine br_c (fun h => ?_) (fun h => ?_)
  · rw [if_pos h] at H
    refine br_c (fun h2 => ?_) (fun h2 => ?_)
    · rw [if_pos h2] at H
      refine br_c (fun h3 => ?_) (fun h3 => ?_)
      · rw [if_pos h3] at H
        exact H
      · rw [if_neg h3] at H
        refine br_c (fun h4 => ?_) (fun h4 => ?_)
        · rw [if_pos h4] at H
          exact H
        · rw [if_neg h4] at H
          refine br_c (fun h5 => ?_) (fun h5 => ?_)
          · rw [if_pos h5] at H
            exact H
          · rw [if_neg h5] at H
            exact H
    · rw [if_neg h2] at H
      exact H
  · rw [if_neg h] at H
    exact H
theorem td_212 {x5 x6 x8 x9 x10 x11 z0 : Int32} (hz : z0 = 0 ∨ z0 = 1) (hf : td_fill a1 = x8) (hw : x11 < 0 ∨ td_with a1 (((100 * x9) + (10 * x10)) + x11) = some z0) (H : wL_lawOf_263 post mc ms x5 x6 kc ks f0 a1 a2 a3 a4 a5 a6 a7) : wL_lawOf_212 post mc ms x5 x6 x8 x9 x10 x11 z0 kc ks f0 a1 a2 a3 a4 a5 a6 a7 := by
  unfold wL_lawOf_212
  refine td_fill_w ?_
  refine br_t hf ?_
  refine br_c (fun _ => H) (fun h => ?_)
  refine td_with_w (hw.resolve_left h) ?_
  rcases hz with e | e
  · refine br_t e ?_
    unfold wL_lawOf_258
    exact br_t e H
  · refine br_f (by rw [e]; exact td_n1) ?_
    unfold wL_lawOf_258
    exact br_t e H
theorem td_147 {x2 x3 x5 x6 z0 x9 x10 : Int32} (h9 : (x2 &&& 255) - (x2 &&& 255) / 7 * 7 = x9) (h10 : (x3 &&& 255) - (x3 &&& 255) / 7 * 7 = x10)
    (H : wL_lawOf_212 post mc ms x5 x6 z0 x9 x10 ((x6 - x9) - x10) (td_one x5 x9 x10 ((x6 - x9) - x10)) kc ks f0 a1 a2 a3 a4 a5 a6 a7) : wL_lawOf_147 post mc ms x2 x3 x5 x6 z0 kc ks f0 a1 a2 a3 a4 a5 a6 a7 := by
  unfold wL_lawOf_147
  refine And.intro td_n7 (nm_r h9 (And.intro td_n7 (nm_r h10 (nm_e ?_))))
  unfold td_one at H
  unfold wL_lawOf_211 wL_lawOf_207
  refine br_c (fun h => ?_) (fun h => ?_)
  · rw [if_pos h] at H
    exact H
  · rw [if_neg h] at H
    refine br_c (fun h2 => ?_) (fun h2 => ?_)
    · rw [if_pos h2] at H
      exact H
    · rw [if_neg h2] at H
      refine br_c (fun h3 => ?_) (fun h3 => ?_)
      · rw [if_pos h3] at H
        exact H
      · rw [if_neg h3] at H
        refine br_c (fun h4 => ?_) (fun h4 => ?_)
        · rw [if_pos h4] at H
          exact H
        · rw [if_neg h4] at H
          refine br_c (fun h5 => ?_) (fun h5 => ?_)
          · rw [if_pos h5] at H
            exact H
          · rw [if_neg h5] at H
            exact H
theorem td_87 {x2 x3 x5 x6 z0 : Int32} (hs : td_isS z0 = 1) (hz : td_size z0 = x6) (ho : td_o9 (td_k z0) 4 0 1 1 0 = some 1)
    (H : wL_lawOf_147 post mc ms x2 x3 x5 x6 (td_all x5 x6) kc ks f0 (td_k z0) a2 a3 a4 a5 a6 a7) : wL_lawOf_87 post mc ms x2 x3 x5 x6 z0 kc ks f0 (fun _ => 0) a2 a3 a4 a5 a6 a7 := by
  unfold wL_lawOf_87
  refine td_keep_w hs ?_
  refine br_t hz ?_
  refine td_orders_w ho ?_
  refine br_t rfl ?_
  unfold td_all at H
  unfold wL_lawOf_142
  refine br_c (fun h => And.intro td_n2 ?_) (fun h => ?_)
  · rw [if_pos h] at H
    exact H
  · rw [if_neg h] at H
    refine br_c (fun h2 => ?_) (fun h2 => ?_)
    · rw [if_pos h2] at H
      exact H
    · rw [if_neg h2] at H
      refine br_c (fun h3 => ?_) (fun h3 => ?_)
      · rw [if_pos h3] at H
        exact H
      · rw [if_neg h3] at H
        exact H
theorem td_38 {x2 x3 x5 z0 z1 x6 : Int32} (h0 : ¬ z0 = 0) (h6 : z1 - z1 / z0 * z0 = x6) (H : wL_lawOf_87 post mc ms x2 x3 x5 x6 (td_sh x5 x6) kc ks f0 a1 a2 a3 a4 a5 a6 a7) : wL_lawOf_38 post mc ms x2 x3 x5 z0 z1 kc ks f0 a1 a2 a3 a4 a5 a6 a7 := by
  unfold wL_lawOf_38
  refine And.intro h0 (nm_r h6 ?_)
  unfold td_sh at H
  refine br_c (fun h => ?_) (fun h => ?_)
  · rw [if_pos h] at H
    exact H
  · rw [if_neg h] at H
    refine br_c (fun h2 => ?_) (fun h2 => ?_)
    · rw [if_pos h2] at H
      exact H
    · rw [if_neg h2] at H
      refine br_c (fun h3 => ?_) (fun h3 => ?_)
      · rw [if_pos h3] at H
        exact H
      · rw [if_neg h3] at H
        refine br_c (fun h4 => ?_) (fun h4 => ?_)
        · rw [if_pos h4] at H
          exact H
        · rw [if_neg h4] at H
          exact H
/-- a cell of the script, masked and reduced, is a small number -/
theorem td_rem (x : Int32) (d : Nat) (h0 : 0 < d) (hd : d < 2 ^ 31) : ∃ j : Nat, j < d ∧ (x &&& 255) - (x &&& 255) / nI d * nI d = nI j := by
  obtain ⟨j, hj, e⟩ := pk_andE x (m := 255) 8 (by decide)
  refine ⟨j % d, Nat.mod_lt _ h0, ?_⟩
  rw [e]
  exact pk_rem (by omega) h0 hd
/-- the law's body, down and n known -/
theorem td_at {x2 x3 : Int32} {d n : Nat} (hd : d < 2) (hn : n < 7) (hdn : d = 0 ∨ n < 4) (hp : post 1 ()) : wL_lawOf_87 post mc ms x2 x3 (nI d) (nI n) (td_sh (nI d) (nI n)) kc ks f0 (fun _ => 0) a2 a3 a4 a5 a6 a7 := by
  obtain ⟨a, ha, ea⟩ := td_rem x2 7 (by decide) (by decide)
  obtain ⟨b, hb, eb⟩ := td_rem x3 7 (by decide) (by decide)
  obtain ⟨t1, t2, t3, t4, t5, t6⟩ := td_T1 hd hn hdn
  exact td_87 t1 t2 t3 (td_147 ea eb (td_212 (td_one_c _ _ _ _) t4 (td_T2 hd hn hdn ha hb) (td_263 (td_319 t5 t6 hp))))
theorem td_lawOf {p0 p1 p2 p3 : Int32} (hp : post 1 ()) : wpL_lawOf post 38 592 () p0 p1 p2 p3 := by
  unfold wpL_lawOf
  refine And.intro (by decide) (And.intro (by decide) (Exists.intro 30 (Exists.intro 500 (And.intro (by decide) (And.intro (by decide) ?_)))))
  unfold wpX_init
  refine And.intro (by decide) (And.intro (by decide) (And.intro (by decide) (And.intro (by decide) (And.intro (by decide) (And.intro (by decide) (And.intro (by decide) (And.intro (by decide) (And.intro (by decide) (And.intro (by decide) (And.intro (by decide) (And.intro (by decide) (And.intro (by decide) (And.intro (by decide) ?_)))))))))))))
  refine br_c (fun _ => ?_) (fun _ => ?_)
  · unfold wL_lawOf_20
    refine br_t rfl ?_
    obtain ⟨n, hn, en⟩ := td_rem p0 7 (by decide) (by decide)
    exact td_38 td_n7 en (td_at (d := 0) (by decide) hn (Or.inl rfl) hp)
  · unfold wL_lawOf_20
    refine br_f td_n1 ?_
    obtain ⟨n, hn, en⟩ := td_rem p0 4 (by decide) (by decide)
    exact td_38 td_n4 en (td_at (d := 1) (by decide) (by omega) (Or.inr hn) hp)
end
theorem td_cell {post : Int32 → Prop} {xs : Nat → Int32} {L : Nat} (hL : L ≤ 4) (k : Nat) (hk : k < 2 ^ 31) (h : ∀ r, post r) : wpL_cellAt post L xs () (nI k) := by
  unfold wpL_cellAt
  exact pk_le L k (fun _ => h _) (fun z => And.intro (vp_in_nI z (by omega)) (h _))
theorem i_vc (xs : Nat → Int32) (L : Nat) (hL : L ≤ 4) : wpL_law (fun r => r = 1) L xs := by
  unfold wpL_law
  refine td_cell hL 0 (by decide) (fun r1 => ?_)
  refine td_cell hL 1 (by decide) (fun r2 => ?_)
  refine td_cell hL 2 (by decide) (fun r3 => ?_)
  refine td_cell hL 3 (by decide) (fun r4 => ?_)
  exact Exists.intro 38 (Exists.intro 592 (And.intro (by decide) (And.intro (by decide) (td_lawOf rfl))))
end
