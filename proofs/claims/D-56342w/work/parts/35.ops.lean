/-- the operations of Operation: union, intersection, difference, exclusive -/
def opk : Nat → Bool → Bool → Bool
  | 0, x, y => x || y
  | 1, x, y => x && y
  | 2, x, y => x && !y
  | _, x, y => x != y
