def Dc (cc : ByteArray) (pc : Nat) (i : Instr) (n pc' : Nat) : Prop := decode cc pc = .ok (i, n) ∧ pc + n = pc'
def Db (cc : ByteArray) (pc : Nat) (i : Int → Instr) (tgt pc' : Nat) : Prop := ∃ off : Int, decode cc pc = .ok (i off, 3) ∧ (pc : Int) + off = (tgt : Int) ∧ pc + 3 = pc'
/-- a switch: the least case, the cases' places, the place of the rest -/
def Dt (cc : ByteArray) (pc : Nat) (lo : Int) (ts : List Nat) (td : Nat) : Prop := ∃ (dflt hi : Int) (offs : Array Int) (len : Nat), decode cc pc = .ok (.tableswitch dflt lo hi offs, len) ∧ hi + 1 = lo + ts.length ∧ offs.toList.map (fun o => ((pc : Int) + o)) = ts.map (fun (t : Nat) => (t : Int)) ∧ (pc : Int) + dflt = (td : Int)
