/-! ===== the pure functions that both systems compute ===== -/
def s_isCore (g : PS) (x : Int32) : Int32 := if x < 0 then 0 else if g 0 0 ≤ x then 0 else 1
def s_isBlock (b : Int32) : Int32 := if b < 0 then 0 else if 3 < b then 0 else 1
def s_access (op : Int32) : Int32 := if op = 0 then 1 else if op = 1 then 1 else if op = 5 then 1 else 0
/-- one more message sent -/
def snd (g : PS) : PS := up2 g 18 0 (g 18 0 + 1)
/-- the access at the place pl of core c, block b, is performed -/
def s_perform (g : PS) (c pl b : Nat) : PS :=
  up2 (up2 (up2 (up2 (up2 (up2 g 9 (4 * c + b) (if g 3 (16 * c + pl) = 0 then g 9 (4 * c + b) else g 2 c))
    2 c (if g 3 (16 * c + pl) = 1 then g 2 c else g 9 (4 * c + b))) 12 0 (g 12 0 + 1)) 11 (4 * c + b) (g 12 0 + 1)) 19 0 (g 19 0 + 1)) 6 c (nI (pl + 1))
def s_plain (g : PS) (c : Nat) (op x : Int32) : PS :=
  up2 (up2 g 2 c (if op = 2 then g 2 c + x else if op = 4 then x else g 2 c)) 6 c (if op = 3 then (if g 2 c = 0 then g 6 c + 1 else x) else g 6 c + 1)
/-- lines of core c in use among the first n -/
def s_used (g : PS) (c : Nat) : Nat → Nat
  | 0 => 0
  | b + 1 => if g 8 (4 * c + b) = 0 then s_used g c b else s_used g c b + 1
theorem s_used_le (g : PS) (c : Nat) : ∀ n, s_used g c n ≤ n
  | 0 => Nat.le_refl 0
  | b + 1 => by
    have := s_used_le g c b
    unfold s_used
    split <;> omega
/-- the least lately used line of core c among the first n, + 1; 0: none -/
def s_vic (g : PS) (c : Nat) : Nat → Nat
  | 0 => 0
  | b + 1 => if g 8 (4 * c + b) = 0 then s_vic g c b else if s_vic g c b = 0 then b + 1 else if g 11 (4 * c + (s_vic g c b - 1)) ≤ g 11 (4 * c + b) then s_vic g c b else b + 1
theorem s_vic_le (g : PS) (c : Nat) : ∀ n, s_vic g c n ≤ n
  | 0 => Nat.le_refl 0
  | b + 1 => by
    have := s_vic_le g c b
    unfold s_vic
    split
    · omega
    · split
      · omega
      · split <;> omega
def s_replG (g : PS) (c v : Nat) : PS := up2 (up2 (snd g) 8 (4 * c + v) (if g 8 (4 * c + v) = 1 then 9 else 8)) 7 c 2
def s_replQ (g : PS) (c v : Nat) : Msg := (if g 8 (4 * c + v) = 1 then 2 else 3, c, 4, v, if g 8 (4 * c + v) = 1 then 0 else g 9 (4 * c + v), 0, 0)
def s_ask (g : PS) (c b : Nat) (st : Int32) : PS := up2 (up2 (up2 (snd g) 8 (4 * c + b) st) 10 (4 * c + b) 0) 7 c 1
/-- sharers of block b among the first n cores, but for the core w - 1 -/
def s_shr (g : PS) (b w : Nat) : Nat → Nat
  | 0 => 0
  | c + 1 => if g 16 (4 * b + c) = 0 then s_shr g b w c else if c + 1 = w then s_shr g b w c else s_shr g b w c + 1
theorem s_shr_le (g : PS) (b w : Nat) : ∀ n, s_shr g b w n ≤ n
  | 0 => Nat.le_refl 0
  | c + 1 => by
    have := s_shr_le g b w c
    unfold s_shr
    split
    · omega
    · split <;> omega
/-- the sharers of block b as a number -/
def s_set (g : PS) (b : Nat) : Nat → Nat
  | 0 => 0
  | c + 1 => if g 16 (4 * b + c) = 0 then s_set g b c else s_set g b c + 2 ^ c
theorem s_set_lt (g : PS) (b : Nat) : ∀ n, s_set g b n < 2 ^ n
  | 0 => Nat.one_pos
  | c + 1 => by
    have := s_set_lt g b c
    unfold s_set
    rw [Nat.pow_succ]
    split <;> omega
/-- what goes out to the sharers when r gains block b -/
def s_invs (g : PS) (b r : Nat) : Nat → List Msg
  | 0 => []
  | c + 1 => if g 16 (4 * b + c) = 0 then s_invs g b r c else if c = r then s_invs g b r c else s_invs g b r c ++ [(6, 4, c, b, 0, 0, r + 1)]
def s_invG (g : PS) (b r : Nat) : Nat → PS
  | 0 => g
  | c + 1 => if g 16 (4 * b + c) = 0 then up2 (s_invG g b r c) 16 (4 * b + c) 0 else if c = r then up2 (s_invG g b r c) 16 (4 * b + c) 0 else up2 (snd (s_invG g b r c)) 16 (4 * b + c) 0
theorem s_invG_16 (g : PS) (b r : Nat) : ∀ n c, n ≤ c → s_invG g b r n 16 (4 * b + c) = g 16 (4 * b + c)
  | 0, c, _ => rfl
  | n + 1, c, h => by
    have ih := s_invG_16 g b r n c (by omega)
    have h1 : 4 * b + c ≠ 4 * b + n := by omega
    unfold s_invG
    split
    · rw [up2_j _ _ h1]; exact ih
    · split
      · rw [up2_j _ _ h1]; exact ih
      · rw [up2_j _ _ h1]; show up2 _ 18 0 _ 16 _ = _; rw [up2_k _ _ (by decide)]; exact ih
theorem s_invG_o (g : PS) (b r : Nat) {k : Nat} (h : k ≠ 16) (h2 : k ≠ 18) : ∀ n, s_invG g b r n k = g k
  | 0 => rfl
  | n + 1 => by
    have ih := s_invG_o g b r h h2 n
    unfold s_invG
    split
    · rw [up2_k _ _ h]; exact ih
    · split
      · rw [up2_k _ _ h]; exact ih
      · rw [up2_k _ _ h]; show up2 _ 18 0 _ k = _; rw [up2_k _ _ h2]; exact ih
theorem s_invs_len (g : PS) (b r : Nat) : ∀ n, (s_invs g b r n).length ≤ n
  | 0 => Nat.le_refl 0
  | c + 1 => by
    have := s_invs_len g b r c
    unfold s_invs
    split
    · omega
    · split
      · omega
      · rw [List.length_append]; simp only [List.length_cons, List.length_nil]; omega
/-- at the home: GETS, GETM, and the rest -/
def s_getsG (g : PS) (r b : Nat) : PS :=
  if g 14 b = 2 then up2 (up2 (up2 (up2 (snd g) 16 (4 * b + (g 15 b).toNatClampNeg) 1) 15 b (-1)) 14 b 3) 16 (4 * b + r) 1 else up2 (up2 (snd g) 14 b 1) 16 (4 * b + r) 1
def s_getsQ (g : PS) (r b : Nat) : Msg := if g 14 b = 2 then (4, 4, (g 15 b).toNatClampNeg, b, 0, 0, r + 1) else (8, 4, r, b, g 13 b, 0, 0)
def s_getmG (g : PS) (r b : Nat) : PS := if g 14 b = 2 then up2 (up2 (snd g) 15 b (nI r)) 14 b 2 else up2 (up2 (s_invG (snd g) b r 4) 15 b (nI r)) 14 b 2
def s_getmQ (g : PS) (r b : Nat) : List Msg := if g 14 b = 2 then [(5, 4, (g 15 b).toNatClampNeg, b, 0, 0, r + 1)] else (8, 4, r, b, g 13 b, s_shr g b (r + 1) 4, 0) :: s_invs g b r 4
def s_ahG (g : PS) (kd r b : Nat) (v : Int32) : PS :=
  if kd = 0 then s_getsG g r b else if kd = 1 then s_getmG g r b
  else if kd = 8 then up2 (up2 g 13 b v) 14 b (if s_shr g b 0 4 = 0 then 0 else 1)
  else if kd = 3 ∧ g 14 b = 2 ∧ g 15 b = nI r then snd (up2 (up2 (up2 g 13 b v) 15 b (-1)) 14 b 0)
  else snd (up2 (up2 g 16 (4 * b + r) 0) 14 b (if g 14 b = 1 then (if s_shr (up2 g 16 (4 * b + r) 0) b 0 4 = 0 then 0 else g 14 b) else g 14 b))
def s_ahQ (g : PS) (kd r b : Nat) : List Msg :=
  if kd = 0 then [s_getsQ g r b] else if kd = 1 then s_getmQ g r b else if kd = 8 then [] else [(7, 4, r, b, 0, 0, 0)]
/-- at a core -/
def s_acG (g : PS) (kd c b : Nat) (v : Int32) (nb : Nat) : PS :=
  if kd = 8 then up2 (up2 (up2 g 9 (4 * c + b) v) 10 (4 * c + b) (g 10 (4 * c + b) + nI nb)) 8 (4 * c + b) (if g 8 (4 * c + b) = 3 then 1 else if g 10 (4 * c + b) + nI nb = 0 then 2 else if g 8 (4 * c + b) = 6 then 7 else 5)
  else if kd = 9 then up2 (up2 g 10 (4 * c + b) (g 10 (4 * c + b) - 1)) 8 (4 * c + b) (if g 8 (4 * c + b) = 5 then (if g 10 (4 * c + b) - 1 = 0 then 2 else g 8 (4 * c + b)) else if g 8 (4 * c + b) = 7 then (if g 10 (4 * c + b) - 1 = 0 then 2 else g 8 (4 * c + b)) else g 8 (4 * c + b))
  else if kd = 6 then up2 (snd g) 8 (4 * c + b) (if g 8 (4 * c + b) = 1 then 0 else if g 8 (4 * c + b) = 6 then 4 else 10)
  else if kd = 4 then up2 (snd (snd g)) 8 (4 * c + b) (if g 8 (4 * c + b) = 2 then 1 else 9)
  else if kd = 5 then up2 (snd g) 8 (4 * c + b) (if g 8 (4 * c + b) = 2 then 0 else 10)
  else up2 (up2 g 8 (4 * c + b) 0) 7 c 0
def s_acQ (g : PS) (kd c b aq : Nat) : List Msg :=
  if kd = 6 then [(9, c, aq - 1, b, 0, 0, 0)] else if kd = 4 then [(8, c, aq - 1, b, g 9 (4 * c + b), 0, 0), (8, c, 4, b, g 9 (4 * c + b), 0, 0)]
  else if kd = 5 then [(8, c, aq - 1, b, g 9 (4 * c + b), 0, 0)] else []
/-- the access that core c waits for is done, if the line of block b lets it -/
def s_fin (g : PS) (c b : Nat) : PS :=
  if g 7 c = 1 then (if g 4 (16 * c + (g 6 c).toNatClampNeg) = nI b then
    (if g 8 (4 * c + b) = 2 then s_perform (up2 g 7 c 0) c (g 6 c).toNatClampNeg b else if g 8 (4 * c + b) = 1 then (if g 3 (16 * c + (g 6 c).toNatClampNeg) = 0 then s_perform (up2 g 7 c 0) c (g 6 c).toNatClampNeg b else g) else g) else g) else g
def fw (kd : Nat) : Bool := decide (4 ≤ kd ∧ kd ≤ 7)
/-- z is a forward that goes the same way as q -/
def same (q z : Msg) : Bool := fw z.1 && (z.2.2.2.1 == q.2.2.2.1) && (z.2.2.1 == q.2.2.1)
def s_behind (M : List Msg) (k : Nat) (q : Msg) : Int32 := if (M.take k).any (same q) then (if fw q.1 then 1 else 0) else 0
def s_stalls (g : PS) (q : Msg) : Int32 :=
  if q.2.2.1 = 4 then (if 1 < q.1 then 0 else if g 14 q.2.2.2.1 = 3 then 1 else 0)
  else if q.1 = 6 then (if g 8 (4 * q.2.2.1 + q.2.2.2.1) = 3 then 1 else 0)
  else if q.1 = 4 ∨ q.1 = 5 then (if g 8 (4 * q.2.2.1 + q.2.2.2.1) < 4 then 0 else if 7 < g 8 (4 * q.2.2.1 + q.2.2.2.1) then 0 else 1) else 0
theorem s_shr_c {g g' : PS} (h : g 16 = g' 16) (b w : Nat) : ∀ n, s_shr g b w n = s_shr g' b w n
  | 0 => rfl
  | c + 1 => by
    have ih := s_shr_c h b w c
    unfold s_shr
    rw [h, ih]
theorem s_set_c {g g' : PS} (h : g 16 = g' 16) (b : Nat) : ∀ n, s_set g b n = s_set g' b n
  | 0 => rfl
  | c + 1 => by
    have ih := s_set_c h b c
    unfold s_set
    rw [h, ih]
