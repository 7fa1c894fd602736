/-! WHAT THE END OF A DAY COMPUTES -/
set_option maxRecDepth 100000
def xDayStep (S : xS) (k : Nat) : xS :=
  if S.2.1 12 k 0 = S.2.1 7 0 0 then
    if S.2.1 16 k 0 = 119 then sF S 16 k 0 120
    else if S.2.1 16 k 0 = 98 then xOwe (sF S 16 k 0 100) k (xCostE (sF S 16 k 0 100) k + xExtra (sF S 16 k 0 100) k (S.1 6 k)) else S
  else S
def xDay (S : xS) : Nat → xS
  | 0 => S
  | k + 1 => xDayStep (xDay S k) k
def xDayMany (S : xS) (n : Nat) : Int32 := sumI n (fun k => if (xDay S k).2.1 12 k 0 = (xDay S k).2.1 7 0 0 ∧ (xDay S k).2.1 16 k 0 = 98 then 1 else 0)
def xEndDay (S : xS) : Nat × (Int32 × xS) :=
  if ¬ S.2.1 7 0 0 < 900 then (2, 0, S) else (0, xDayMany S (S.1 2 0), xFills (sF (xDay S (S.1 2 0)) 7 0 0 (S.2.1 7 0 0 + 1)))
