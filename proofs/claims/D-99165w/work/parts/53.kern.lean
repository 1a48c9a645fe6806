/-! KERNEL CHECKS over all sets of sixteen (compiled once) -/
set_option maxRecDepth 100000
def bcA (v : Nat) : Nat := v - ((v / 2) &&& 1431655765)
def bcB (a : Nat) : Nat := (a &&& 858993459) + ((a / 4) &&& 858993459)
def bcC (x : Nat) : Nat := (x + x / 16) &&& 252645135
def bcN (v : Nat) : Nat := let c := bcC (bcB (bcA v)); ((c + c / 256) + (c + c / 256) / 65536) &&& 63
def pc16 (v : Nat) : Nat := v % 2 + v / 2 % 2 + v / 4 % 2 + v / 8 % 2 + v / 16 % 2 + v / 32 % 2 + v / 64 % 2 + v / 128 % 2 + v / 256 % 2 + v / 512 % 2 + v / 1024 % 2 + v / 2048 % 2 + v / 4096 % 2 + v / 8192 % 2 + v / 16384 % 2 + v / 32768 % 2
def chkBC : Bool := (List.range 256).all fun a => (List.range 256).all fun b => Nat.beq (bcN (256 * a + b)) (pc16 (256 * a + b))
theorem chkBC_ok : chkBC = true := by decide +kernel
def tz62 (v n : Nat) : Nat := if Nat.ble v 4 = true then n + v / 2 else n + 2 + v / 4 / 2
def tz49 (v n : Nat) : Nat := if Nat.ble v 16 = true then tz62 v n else tz62 (v / 16) (n + 4)
def tz34 (v n : Nat) : Nat := if Nat.ble v 256 = true then tz49 v n else tz49 (v / 256) (n + 8)
def tzI (v : Nat) : Nat := (4294967295 ^^^ v) &&& (v - 1)
def tzN (v : Nat) : Nat := if Nat.beq (tzI v) 0 = true then 0 else tz34 (tzI v) 1
def chkTZ1 (v : Nat) : Bool := Nat.ble (tzI v) 65535 && Nat.beq (v / 2 ^ tzN v % 2) 1 && Nat.beq (v % 2 ^ tzN v) 0 && Nat.ble (tzN v) 15
def chkTZ : Bool := (List.range 256).all fun a => (List.range 256).all fun b => Nat.beq (256 * a + b) 0 || chkTZ1 (256 * a + b)
theorem chkTZ_ok : chkTZ = true := by decide +kernel
