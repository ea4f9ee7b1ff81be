/-! SPECS: a cave in numbers: A is the twin's row; stands, laws, why a step can't be made, where it leads -/
set_option maxRecDepth 100000
def eB (c a b : Int) : Int :=
  if c = 3003 then bz (a = b) else if c = 3004 then bz (a < b) else if c = 3005 then bz (b < a)
  else if c = 3007 then bz (a = 1 ∧ b = 1) else if c = 3008 then bz (a = 1 ∨ b = 1)
  else max (-1000000) (min 1000000 (if c = 3000 then a + b else if c = 3001 then a - b else a * b))
def eS (w : Int → Int) (st : List Int) (c : Int) : List Int :=
  if c < 1000 then c :: st else if c < 3000 then w (c - 1000) :: st
  else if c = 3006 then (match st with
    | a :: r => (1 - a) :: r
    | _ => [])
  else if c = 3009 then (match st with
    | e :: t :: q :: r => (if q = 1 then t else e) :: r
    | _ => [])
  else (match st with
    | b :: a :: r => eB c a b :: r
    | _ => [])
def eV (w : Int → Int) (cs : List Int) : Int := (cs.foldl (eS w) []).headD 0
/-- codes of a sum (false), a truth (true): so deep at most, its words below W -/
def wfc : Nat → Bool → Int → List Int → Prop
  | 0, _, _, _ => False
  | d + 1, false, W, cs => (∃ n, 0 ≤ n ∧ n < 1000 ∧ cs = [n]) ∨ (∃ w, 0 ≤ w ∧ w < W ∧ cs = [1000 + w])
    ∨ (∃ a b c, wfc d false W a ∧ wfc d false W b ∧ 3000 ≤ c ∧ c ≤ 3002 ∧ cs = a ++ b ++ [c])
    ∨ (∃ q t e, wfc d true W q ∧ wfc d false W t ∧ wfc d false W e ∧ cs = q ++ t ++ e ++ [3009])
  | d + 1, true, W, cs => (∃ a b c, wfc d false W a ∧ wfc d false W b ∧ 3003 ≤ c ∧ c ≤ 3005 ∧ cs = a ++ b ++ [c])
    ∨ (∃ a, wfc d true W a ∧ cs = a ++ [3006])
    ∨ (∃ a b c, wfc d true W a ∧ wfc d true W b ∧ (c = 3007 ∨ c = 3008) ∧ cs = a ++ b ++ [c])
/-- a law's codes -/
def mL (A : Int → Int) (o law : Int) : List Int := (List.range (A (o + 8 + law)).toNat).map fun (i : Nat) => A (o + 99 + A (o + 6 + law) + (i : Int))
def mW (A : Int → Int) (s p rop sl : Int) : Int → Int := fun k =>
  if k = 0 then p else if k = 1 then A (26 + p) else if k = 2 then s % 6 else if k = 3 then bt rop p else if k = 4 then sl
  else if k = 5 then (if A (10 + p) = s / 6 then 0 else 1) else (if A (10 + p) = s / 6 then A (18 + p) else A (10 + p))
def whyM (A : Int → Int) (s p rop sl : Int) : Int :=
  if A (10 + p) = s / 6 ∨ (A (34 + p) = 1 ∧ A (18 + p) = s / 6) then (if s % 6 = 5 then 3 else if A 5 = 0 ∨ eV (mW A s p rop sl) (mL A 0 1) = 1 then 0 else 4) else 2
def hurtM (A : Int → Int) (s p rop sl : Int) : Int :=
  if A 4 = 1 then max 0 (min 5 (eV (mW A s p rop sl) (mL A 0 0))) else min 5 (if 4 < A (26 + p) ∧ bt rop p = 0 then s % 6 + 1 else s % 6)
def thenM (A : Int → Int) (s p rop sl : Int) : Int := 6 * (if A (10 + p) = s / 6 then A (18 + p) else A (10 + p)) + hurtM A s p rop sl
theorem whyM_cases (A : Int → Int) (s p rop sl : Int) : whyM A s p rop sl = 0 ∨ whyM A s p rop sl = 2 ∨ whyM A s p rop sl = 3 ∨ whyM A s p rop sl = 4 := by
  unfold whyM
  split
  · split
    · exact Or.inr (Or.inr (Or.inl rfl))
    · split
      · exact Or.inl rfl
      · exact Or.inr (Or.inr (Or.inr rfl))
  · exact Or.inr (Or.inl rfl)
/-- a well-formed cave in a row, from o on -/
def bWF (A : Int → Int) (o : Int) : Prop :=
  1 ≤ A (o + 1) ∧ A (o + 1) ≤ 6 ∧ 0 ≤ A (o + 2) ∧ A (o + 2) ≤ 8 ∧ 0 ≤ A (o + 3) ∧ A (o + 3) ≤ 10 ∧ (A (o + 4) = 0 ∨ A (o + 4) = 1) ∧ (A (o + 5) = 0 ∨ A (o + 5) = 1)
  ∧ (∀ p, 0 ≤ p → p < A (o + 2) → 0 ≤ A (o + 10 + p) ∧ A (o + 10 + p) < A (o + 1) ∧ 0 ≤ A (o + 18 + p) ∧ A (o + 18 + p) < A (o + 1) ∧ A (o + 10 + p) ≠ A (o + 18 + p) ∧ 0 ≤ A (o + 26 + p) ∧ A (o + 26 + p) ≤ 9 ∧ (A (o + 34 + p) = 0 ∨ A (o + 34 + p) = 1))
  ∧ (A (o + 4) = 1 → 0 ≤ A (o + 6) ∧ 0 ≤ A (o + 8) ∧ A (o + 6) + A (o + 8) ≤ 900 ∧ ∃ d, d ≤ 900 ∧ wfc d false 6 (mL A o 0))
  ∧ (A (o + 5) = 1 → 0 ≤ A (o + 7) ∧ 0 ≤ A (o + 9) ∧ A (o + 7) + A (o + 9) ≤ 900 ∧ ∃ d, d ≤ 900 ∧ wfc d true 7 (mL A o 1))
/-- where he is, how hurt, ropes, slack: of a row of five -/
def bSt (A : Int → Int) (o rooms : Int) : Prop := 0 ≤ A o ∧ A o < rooms ∧ 0 ≤ A (o + 1) ∧ A (o + 1) ≤ 5 ∧ 0 ≤ A (o + 2) ∧ A (o + 2) < 256 ∧ 0 ≤ A (o + 3) ∧ A (o + 3) ≤ 9
