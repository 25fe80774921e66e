/-! ROWS 15b: the last three sums -/
def pb4 (y : Nat) : Nat := y + y / 256
def pb5 (y : Nat) : Nat := y + y / 65536
def pb6 (y : Nat) : Nat := y + y / 4294967296
theorem pb_e4 {x y0 : Nat} (h : y0 < 256) : pb4 (256 * x + y0) = 256 * x + x + y0 := by
  unfold pb4
  omega
theorem pb_e5 {x b0 b1 : Nat} (h : 256 * b1 + b0 < 65536) : pb5 (65536 * x + (256 * b1 + b0)) = 65536 * x + x + (256 * b1 + b0) := by
  unfold pb5
  omega
theorem pb_e6 {x y s t : Nat} (hy : 256 * y + s < 4294967296) (hst : s + t < 128) : pb6 (4294967296 * (256 * x + t) + (256 * y + s)) % 128 = s + t := by
  unfold pb6
  have e : (4294967296 * (256 * x + t) + (256 * y + s)) / 4294967296 = 256 * x + t := by omega
  rw [e]
  omega
theorem pb_end {y0 y1 y2 y3 y4 y5 y6 y7 : Nat} (h0 : y0 ≤ 8) (h1 : y1 ≤ 8) (h2 : y2 ≤ 8) (h3 : y3 ≤ 8) (h4 : y4 ≤ 8) (h5 : y5 ≤ 8) (h6 : y6 ≤ 8) (h7 : y7 ≤ 8) :
    pb6 (pb5 (pb4 (256 * (256 * (256 * (256 * (256 * (256 * (256 * (256 * 0 + y7) + y6) + y5) + y4) + y3) + y2) + y1) + y0))) % 128 = y0 + y1 + y2 + y3 + y4 + y5 + y6 + y7 := by
  rw [pb_e4 (by omega)]
  have e4 : 256 * (256 * (256 * (256 * (256 * (256 * (256 * (256 * 0 + y7) + y6) + y5) + y4) + y3) + y2) + y1) + (256 * (256 * (256 * (256 * (256 * (256 * (256 * 0 + y7) + y6) + y5) + y4) + y3) + y2) + y1) + y0 = 65536 * (256 * (256 * (256 * (256 * (256 * y7 + (y6 + y7)) + (y5 + y6)) + (y4 + y5)) + (y3 + y4)) + (y2 + y3)) + (256 * (y1 + y2) + (y0 + y1)) := by omega
  rw [e4, pb_e5 (by omega)]
  have e5 : 65536 * (256 * (256 * (256 * (256 * (256 * y7 + (y6 + y7)) + (y5 + y6)) + (y4 + y5)) + (y3 + y4)) + (y2 + y3)) + (256 * (256 * (256 * (256 * (256 * y7 + (y6 + y7)) + (y5 + y6)) + (y4 + y5)) + (y3 + y4)) + (y2 + y3)) + (256 * (y1 + y2) + (y0 + y1)) = 4294967296 * (256 * (256 * (256 * y7 + (y6 + y7)) + (y5 + y6 + y7)) + (y4 + y5 + y6 + y7)) + (256 * (256 * (256 * (y3 + y4 + y5 + y6) + (y2 + y3 + y4 + y5)) + (y1 + y2 + y3 + y4)) + (y0 + y1 + y2 + y3)) := by omega
  rw [e5, pb_e6 (by omega) (by omega)]
  omega
