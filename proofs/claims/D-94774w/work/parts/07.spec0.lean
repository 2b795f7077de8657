/-! PURE WORDS: bits of rows, counts; small rows over GG that need them. -/
set_option maxRecDepth 100000
/-- the bit of the world w in the row r (29 longs a row) -/
def rbt (rows : Nat → Int64) (r w : Nat) : Bool := (rows (29 * r + w / 64)).toBitVec.getLsbD (w % 64)
def cnt (f : Nat → Bool) : Nat → Nat
  | 0 => 0
  | n + 1 => cnt f n + (if f n = true then 1 else 0)
theorem cnt_le (f : Nat → Bool) (n : Nat) : cnt f n ≤ n := by
  induction n with
  | zero => exact Nat.le_refl _
  | succ n ih => unfold cnt; split <;> omega
theorem cnt_congr {f g : Nat → Bool} {n : Nat} (h : ∀ w, w < n → f w = g w) : cnt f n = cnt g n := by
  induction n with
  | zero => rfl
  | succ n ih => unfold cnt; rw [ih (fun w hw => h w (Nat.lt_succ_of_lt hw)), h n (Nat.lt_succ_self n)]
theorem lN_1_bv : (lN 1).toBitVec = 1#64 := by decide +kernel
theorem amt_bv {k : Nat} (hk : k < 64) : ((nI k).toInt64 &&& 63).toBitVec.smod 64 = BitVec.ofNat 64 k := by
  rw [wb_c k hk, wb_tb, wb_sm k hk]
theorem bit_ld (x : Int64) {k : Nat} (hk : k < 64) : ((x >>> ((nI k).toInt64 &&& 63)) &&& lN 1) = lN (if x.toBitVec.getLsbD k = true then 1 else 0) := by
  apply wb_inj
  have h1 : ((x >>> ((nI k).toInt64 &&& 63)) &&& lN 1).toBitVec = (x.toBitVec.sshiftRight k) &&& 1#64 := by
    show (x.toBitVec.sshiftRight' (((nI k).toInt64 &&& 63).toBitVec.smod 64)) &&& (lN 1).toBitVec = _
    rw [amt_bv hk, lN_1_bv]
    show (x.toBitVec.sshiftRight (BitVec.ofNat 64 k).toNat) &&& 1#64 = _
    rw [BitVec.toNat_ofNat, Nat.mod_eq_of_lt (Nat.lt_trans hk (by decide))]
  rw [h1, wb_tb]
  apply BitVec.eq_of_getLsbD_eq
  intro i hi
  rw [BitVec.getLsbD_and, BitVec.getLsbD_one, BitVec.getLsbD_sshiftRight]
  by_cases h0 : i = 0
  · subst h0
    cases hb : x.toBitVec.getLsbD k <;> simp [hk, hb]
  · have : ¬ (0 = i) := fun h => h0 h.symm
    cases hb : x.toBitVec.getLsbD k
    · simp [h0]
    · have h9 : Nat.testBit 1 i = false := Nat.testBit_lt_two_pow (Nat.one_lt_two_pow h0)
      simp [h0, BitVec.getLsbD_ofNat, h9, this]
theorem bit1_bv {k : Nat} (hk : k < 64) : (lN 1 <<< ((nI k).toInt64 &&& 63)).toBitVec = 1#64 <<< k := by
  show (lN 1).toBitVec <<< (((nI k).toInt64 &&& 63).toBitVec.smod 64) = _
  rw [amt_bv hk, lN_1_bv]
  show 1#64 <<< (BitVec.ofNat 64 k).toNat = _
  rw [BitVec.toNat_ofNat, Nat.mod_eq_of_lt (Nat.lt_trans hk (by decide))]
theorem bit1_get {k i : Nat} (hi : i < 64) : (1#64 <<< k).getLsbD i = decide (i = k) := by
  rw [BitVec.getLsbD_shiftLeft, BitVec.getLsbD_one]
  by_cases h : i = k
  · subst h; simp [hi]
  · by_cases h2 : i < k
    · simp [h, h2]
    · have : ¬ (i - k = 0) := by omega
      simp [h, this]
theorem bit_or (x : Int64) {k i : Nat} (hk : k < 64) (hi : i < 64) : (x ||| (lN 1 <<< ((nI k).toInt64 &&& 63))).toBitVec.getLsbD i = (x.toBitVec.getLsbD i || decide (i = k)) := by
  show (x.toBitVec ||| (lN 1 <<< ((nI k).toInt64 &&& 63)).toBitVec).getLsbD i = _
  rw [bit1_bv hk, BitVec.getLsbD_or, bit1_get hi]
theorem bit_andn (x : Int64) {k i : Nat} (hk : k < 64) (hi : i < 64) : (x &&& ((lN 1 <<< ((nI k).toInt64 &&& 63)) ^^^ (-1))).toBitVec.getLsbD i = (x.toBitVec.getLsbD i && !decide (i = k)) := by
  show (x.toBitVec &&& ((lN 1 <<< ((nI k).toInt64 &&& 63)).toBitVec ^^^ (-1 : Int64).toBitVec)).getLsbD i = _
  rw [bit1_bv hk, BitVec.getLsbD_and, BitVec.getLsbD_xor, bit1_get hi, show (-1 : Int64).toBitVec = BitVec.allOnes 64 from by decide +kernel, BitVec.getLsbD_allOnes]
  simp [hi]
/-- a row's bit put -/
theorem rbt_put {rows : Nat → Int64} {r w : Nat} {x : Int64} {b : Bool} (hw : w < 1856) (hx : ∀ i, i < 64 → x.toBitVec.getLsbD i = if i = w % 64 then b else (rows (29 * r + w / 64)).toBitVec.getLsbD i) : ∀ r' w', w' < 1856 → rbt (up rows (29 * r + w / 64) x) r' w' = if r' = r ∧ w' = w then b else rbt rows r' w' := by
  intro r' w' hw'
  unfold rbt up
  have h1 : w / 64 < 29 := by omega
  have h2 : w' / 64 < 29 := by omega
  by_cases h : 29 * r' + w' / 64 = 29 * r + w / 64
  · have h3 : r' = r := by omega
    have h4 : w' / 64 = w / 64 := by omega
    rw [if_pos h, hx _ (Nat.mod_lt _ (by decide))]
    by_cases h5 : w' % 64 = w % 64
    · have : w' = w := by omega
      rw [if_pos h5, if_pos ⟨h3, this⟩]
    · rw [if_neg h5, if_neg (fun q => h5 (by rw [q.2])), h]
  · rw [if_neg h, if_neg (fun q => h (by rw [q.1, q.2]))]
section G6
variable {l : Launch} {D : va_G} {cl : List vw_C} {tys : List (ClassId × FieldType)} {cc : ByteArray} {nL : Nat} {rt : Option FieldType} {own : String} {R : Room} {A : Nat → Prop} {MX : Heap → Method → Code → Prop} {QF : List Frame → Array Value → State → State → Prop} {HP : Heap → Prop} {k n pc : Nat} {L L' : List (Nat × Value)} {st : List Value}
theorem g_ishr6 {a : Nat} (hd : decode cc pc = .ok (.ishr, 1)) (ha : a < 2 ^ 31) (K : GG l D cl tys cc nL rt own R A MX QF HP k n (pc + 1) L (.int (nI (a / 64)) :: st)) : GG l D cl tys cc nL rt own R A MX QF HP k n pc L (.int (nI 6) :: .int (nI a) :: st) :=
  g_ishr hd (GG.topi (pk_shrN ha (nI 6 &&& 31) 6 (by decide +kernel)) K)
theorem g_iand63 {a : Nat} (hd : decode cc pc = .ok (.iand, 1)) (ha : a < 2 ^ 32) (K : GG l D cl tys cc nL rt own R A MX QF HP k n (pc + 1) L (.int (nI (a % 64)) :: st)) : GG l D cl tys cc nL rt own R A MX QF HP k n pc L (.int (nI 63) :: .int (nI a) :: st) :=
  g_iand hd (GG.topi (pk_andN ha 6 (by decide +kernel)) K)
theorem g_mmin_n {a b idx : Nat} (hq : Cond.methodLink own idx Lib.Math.min.name ∈ lw_all) (hd : decode cc pc = .ok (.invokestatic idx, 3)) (hfr : 1 ≤ R.frames) (hlo : (st.map fun v => v.category).sum + 13 ≤ R.locals) (hk : k ≤ R.cells) (hn : n ≤ R.slots) (ha : a < 2 ^ 31) (hb : b < 2 ^ 31) (K : GG l D cl tys cc nL rt own R A MX QF HP k n (pc + 3) L (.int (nI (min a b)) :: st)) : GG l D cl tys cc nL rt own R A MX QF HP k n pc L (.int (nI b) :: .int (nI a) :: st) := by
  intro p e s m args below meth c H locs ls B hP hS hl
  have hts := B.2.2.2.2.2.2.1
  refine va_mmin B.1 B.2.1 (B.2.2.1.trans hl.1.symm) B.2.2.2.2.2.1 (hts _ hq) (hts _ q662) (hts _ q129) (hts _ q663) hfr hlo hk hn hd ?_
  have e1 : (if nI b < nI a then nI b else nI a) = nI (min a b) := by
    by_cases h : b < a
    · rw [if_pos ((nI_ltI hb ha).mpr h), Nat.min_eq_right (Nat.le_of_lt h)]
    · rw [if_neg (mt (nI_ltI hb ha).mp h), Nat.min_eq_left (by omega)]
  rw [e1]
  exact K p e s m args below meth c H locs ls B hP hS hl
theorem g_mmin {a b : Int32} {idx : Nat} (hq : Cond.methodLink own idx Lib.Math.min.name ∈ lw_all) (hd : decode cc pc = .ok (.invokestatic idx, 3)) (hfr : 1 ≤ R.frames) (hlo : (st.map fun v => v.category).sum + 13 ≤ R.locals) (hk : k ≤ R.cells) (hn : n ≤ R.slots) (K : GG l D cl tys cc nL rt own R A MX QF HP k n (pc + 3) L (.int (if b < a then b else a) :: st)) : GG l D cl tys cc nL rt own R A MX QF HP k n pc L (.int b :: .int a :: st) := by
  intro p e s m args below meth c H locs ls B hP hS hl
  have hts := B.2.2.2.2.2.2.1
  exact va_mmin B.1 B.2.1 (B.2.2.1.trans hl.1.symm) B.2.2.2.2.2.1 (hts _ hq) (hts _ q662) (hts _ q129) (hts _ q663) hfr hlo hk hn hd (K p e s m args below meth c H locs ls B hP hS hl)
theorem g_mmax {a b : Int32} {idx : Nat} (hq : Cond.methodLink own idx Lib.Math.max.name ∈ lw_all) (hd : decode cc pc = .ok (.invokestatic idx, 3)) (hfr : 1 ≤ R.frames) (hlo : (st.map fun v => v.category).sum + 13 ≤ R.locals) (hk : k ≤ R.cells) (hn : n ≤ R.slots) (K : GG l D cl tys cc nL rt own R A MX QF HP k n (pc + 3) L (.int (if a < b then b else a) :: st)) : GG l D cl tys cc nL rt own R A MX QF HP k n pc L (.int b :: .int a :: st) := by
  intro p e s m args below meth c H locs ls B hP hS hl
  have hts := B.2.2.2.2.2.2.1
  exact va_mmax B.1 B.2.1 (B.2.2.1.trans hl.1.symm) B.2.2.2.2.2.1 (hts _ hq) (hts _ q683) (hts _ q129) (hts _ q684) hfr hlo hk hn hd (K p e s m args below meth c H locs ls B hP hS hl)
end G6
