set_option maxRecDepth 100000
/-! numbers for BitSet: below 4096 -/
def bitP (z : Nat) (i : Int) : Prop := z / 2 ^ i.toNat % 2 = 1
abbrev nsB (z : Nat) (k : Nat) : Int := fndZ (fun i => z / 2 ^ i.toNat % 2 = 1) k (12 - k)
def pcN : Nat → Nat → Nat
  | 0, _ => 0
  | n + 1, z => z % 2 + pcN n (z / 2)
def bcF (x : Int64) : Int32 :=
  let a := x - ((x.toUInt64 >>> ((1 : Int32).toInt64.toUInt64 &&& Int64.toUInt64 63)).toInt64 &&& 6148914691236517205)
  let b := (a &&& 3689348814741910323) + ((a.toUInt64 >>> ((2 : Int32).toInt64.toUInt64 &&& Int64.toUInt64 63)).toInt64 &&& 3689348814741910323)
  let c := (b + (b.toUInt64 >>> ((4 : Int32).toInt64.toUInt64 &&& Int64.toUInt64 63)).toInt64) &&& 1085102592571150095
  let e := c + (c.toUInt64 >>> ((8 : Int32).toInt64.toUInt64 &&& Int64.toUInt64 63)).toInt64
  let f := e + (e.toUInt64 >>> ((16 : Int32).toInt64.toUInt64 &&& Int64.toUInt64 63)).toInt64
  let g := f + (f.toUInt64 >>> ((32 : Int32).toInt64.toUInt64 &&& Int64.toUInt64 63)).toInt64
  g.toInt32 &&& 127
theorem all64 {p : Nat → Prop} [DecidablePred p] (h : ((List.range 64).all fun a => (List.range 64).all fun b => decide (p (64 * a + b))) = true) : ∀ z, z < 4096 → p z := by
  intro z hz
  have h1 := List.all_eq_true.mp h (z / 64) (List.mem_range.mpr (by omega))
  have h2 := of_decide_eq_true (List.all_eq_true.mp h1 (z % 64) (List.mem_range.mpr (by omega)))
  rwa [show 64 * (z / 64) + z % 64 = z by omega] at h2
theorem bc_ok : ∀ z, z < 4096 → bcF (lN z) = iZ (pcN 12 z : Nat) := all64 (by decide +kernel)
theorem ntA : ∀ z : Nat, z < 4096 → z ≠ 0 → (iZ z ^^^ iZ (-1)) &&& iZ ((z : Int) - 1) = iZ (2 ^ (nsB z 0).toNat - 1) := all64 (p := fun z => z ≠ 0 → (iZ z ^^^ iZ (-1)) &&& iZ ((z : Int) - 1) = iZ (2 ^ (nsB z 0).toNat - 1)) (by decide +kernel)
theorem ntB : ∀ z, z < 4096 → z ≠ 0 → 0 ≤ nsB z 0 ∧ nsB z 0 ≤ 11 := all64 (p := fun z => z ≠ 0 → 0 ≤ nsB z 0 ∧ nsB z 0 ≤ 11) (by decide +kernel)
theorem mkB : ∀ k, k < 13 → ∀ z, z < 4096 → lN z &&& ((-1 : Int64) <<< ((iZ (k : Nat)).toInt64 &&& 63)) = lN (z - z % 2 ^ k) := by
  have h : ((List.range 13).all fun k => (List.range 64).all fun a => (List.range 64).all fun b => decide (lN (64 * a + b) &&& ((-1 : Int64) <<< ((iZ (k : Nat)).toInt64 &&& 63)) = lN ((64 * a + b) - (64 * a + b) % 2 ^ k))) = true := by decide +kernel
  intro k hk
  exact all64 (p := fun z => lN z &&& ((-1 : Int64) <<< ((iZ (k : Nat)).toInt64 &&& 63)) = lN (z - z % 2 ^ k)) (List.all_eq_true.mp h k (List.mem_range.mpr hk))
theorem nsM : ∀ k, k < 13 → ∀ z, z < 4096 → nsB z k = if z - z % 2 ^ k = 0 then -1 else nsB (z - z % 2 ^ k) 0 := by
  have h : ((List.range 13).all fun k => (List.range 64).all fun a => (List.range 64).all fun b => decide (nsB (64 * a + b) k = if (64 * a + b) - (64 * a + b) % 2 ^ k = 0 then -1 else nsB ((64 * a + b) - (64 * a + b) % 2 ^ k) 0)) = true := by decide +kernel
  intro k hk
  exact all64 (p := fun z => nsB z k = if z - z % 2 ^ k = 0 then -1 else nsB (z - z % 2 ^ k) 0) (List.all_eq_true.mp h k (List.mem_range.mpr hk))
/-- a bit set, a bit cleared, above all others -/
theorem sbB : ∀ k, k < 12 → ∀ z, z < 2 ^ k → lN z ||| ((1 : Int64) <<< ((iZ (k : Nat)).toInt64 &&& 63)) = lN (z + 2 ^ k) := by
  have h : ((List.range 12).all fun k => (List.range (2 ^ k)).all fun z => decide (lN z ||| ((1 : Int64) <<< ((iZ (k : Nat)).toInt64 &&& 63)) = lN (z + 2 ^ k))) = true := by decide +kernel
  intro k hk z hz
  exact of_decide_eq_true (List.all_eq_true.mp (List.all_eq_true.mp h k (List.mem_range.mpr hk)) z (List.mem_range.mpr hz))
theorem clB : ∀ k, k < 12 → ∀ z, z < 2 ^ k → lN z &&& (((1 : Int64) <<< ((iZ (k : Nat)).toInt64 &&& 63)) ^^^ (-1)) = lN z := by
  have h : ((List.range 12).all fun k => (List.range (2 ^ k)).all fun z => decide (lN z &&& (((1 : Int64) <<< ((iZ (k : Nat)).toInt64 &&& 63)) ^^^ (-1)) = lN z)) = true := by decide +kernel
  intro k hk z hz
  exact of_decide_eq_true (List.all_eq_true.mp (List.all_eq_true.mp h k (List.mem_range.mpr hk)) z (List.mem_range.mpr hz))
theorem lcB : ∀ z, z < 4096 → lg_cmp (lN z) (Int64.ofNat 0) = iZ (if z = 0 then 0 else 1) := all64 (p := fun z => lg_cmp (lN z) (Int64.ofNat 0) = iZ (if z = 0 then 0 else 1)) (by decide +kernel)
