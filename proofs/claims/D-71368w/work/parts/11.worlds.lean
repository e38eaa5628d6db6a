/-! the two worlds: records of what the cells hold, the cells by their places -/
set_option maxRecDepth 100000
abbrev XJ : Type := (Int32 × Int32 × Int32 × (Nat → Int32) × (Nat → Int32) × (Nat → Int32) × (Nat → Int32) × (Nat → Int32)) × ((Nat → Int32) × (Nat → Int32) × (Nat → Int32) × (Nat → Int32) × Int32) × (Int32 × Int32 × Int32 × Int32 × Int64) × ((Nat → Int32) × (Nat → Int32) × (Nat → Int32) × (Nat → Int32) × (Nat → Int32) × (Nat → Int32) × (Nat → Int32)) × (Int32 × Int32 × Int32 × Int32 × Int32 × Int32) × (Int32 × Int32 × Int32 × (Nat → Int32) × (Nat → Int32) × (Nat → Int32) × (Nat → Int32) × (Nat → Int32)) × (Nat → Nat) × (Int32 × Int32 × Int32 × Int32) × (Nat → (Nat → Int32) × (Nat → Int32) × (Nat → Int32) × (Nat → Int32) × Int32)
abbrev XJ.tw (J : XJ) : (Int32 × Int32 × Int32 × (Nat → Int32) × (Nat → Int32) × (Nat → Int32) × (Nat → Int32) × (Nat → Int32)) := J.1
abbrev XJ.tw' (J : XJ) (v : (Int32 × Int32 × Int32 × (Nat → Int32) × (Nat → Int32) × (Nat → Int32) × (Nat → Int32) × (Nat → Int32))) : XJ := (v, J.2.1, J.2.2.1, J.2.2.2.1, J.2.2.2.2.1, J.2.2.2.2.2.1, J.2.2.2.2.2.2.1, J.2.2.2.2.2.2.2.1, J.2.2.2.2.2.2.2.2)
abbrev XJ.tYards (J : XJ) : Int32 := J.1.1
abbrev XJ.tYards' (J : XJ) (v : Int32) : XJ := ((v, J.1.2.1, J.1.2.2.1, J.1.2.2.2.1, J.1.2.2.2.2.1, J.1.2.2.2.2.2.1, J.1.2.2.2.2.2.2.1, J.1.2.2.2.2.2.2.2), J.2.1, J.2.2.1, J.2.2.2.1, J.2.2.2.2.1, J.2.2.2.2.2.1, J.2.2.2.2.2.2.1, J.2.2.2.2.2.2.2.1, J.2.2.2.2.2.2.2.2)
abbrev XJ.tStreets (J : XJ) : Int32 := J.1.2.1
abbrev XJ.tStreets' (J : XJ) (v : Int32) : XJ := ((J.1.1, v, J.1.2.2.1, J.1.2.2.2.1, J.1.2.2.2.2.1, J.1.2.2.2.2.2.1, J.1.2.2.2.2.2.2.1, J.1.2.2.2.2.2.2.2), J.2.1, J.2.2.1, J.2.2.2.1, J.2.2.2.2.1, J.2.2.2.2.2.1, J.2.2.2.2.2.2.1, J.2.2.2.2.2.2.2.1, J.2.2.2.2.2.2.2.2)
abbrev XJ.tCitizens (J : XJ) : Int32 := J.1.2.2.1
abbrev XJ.tCitizens' (J : XJ) (v : Int32) : XJ := ((J.1.1, J.1.2.1, v, J.1.2.2.2.1, J.1.2.2.2.2.1, J.1.2.2.2.2.2.1, J.1.2.2.2.2.2.2.1, J.1.2.2.2.2.2.2.2), J.2.1, J.2.2.1, J.2.2.2.1, J.2.2.2.2.1, J.2.2.2.2.2.1, J.2.2.2.2.2.2.1, J.2.2.2.2.2.2.2.1, J.2.2.2.2.2.2.2.2)
abbrev XJ.tOne (J : XJ) : (Nat → Int32) := J.1.2.2.2.1
abbrev XJ.tOne' (J : XJ) (v : (Nat → Int32)) : XJ := ((J.1.1, J.1.2.1, J.1.2.2.1, v, J.1.2.2.2.2.1, J.1.2.2.2.2.2.1, J.1.2.2.2.2.2.2.1, J.1.2.2.2.2.2.2.2), J.2.1, J.2.2.1, J.2.2.2.1, J.2.2.2.2.1, J.2.2.2.2.2.1, J.2.2.2.2.2.2.1, J.2.2.2.2.2.2.2.1, J.2.2.2.2.2.2.2.2)
abbrev XJ.tOther (J : XJ) : (Nat → Int32) := J.1.2.2.2.2.1
abbrev XJ.tOther' (J : XJ) (v : (Nat → Int32)) : XJ := ((J.1.1, J.1.2.1, J.1.2.2.1, J.1.2.2.2.1, v, J.1.2.2.2.2.2.1, J.1.2.2.2.2.2.2.1, J.1.2.2.2.2.2.2.2), J.2.1, J.2.2.1, J.2.2.2.1, J.2.2.2.2.1, J.2.2.2.2.2.1, J.2.2.2.2.2.2.1, J.2.2.2.2.2.2.2.1, J.2.2.2.2.2.2.2.2)
abbrev XJ.tOld (J : XJ) : (Nat → Int32) := J.1.2.2.2.2.2.1
abbrev XJ.tOld' (J : XJ) (v : (Nat → Int32)) : XJ := ((J.1.1, J.1.2.1, J.1.2.2.1, J.1.2.2.2.1, J.1.2.2.2.2.1, v, J.1.2.2.2.2.2.2.1, J.1.2.2.2.2.2.2.2), J.2.1, J.2.2.1, J.2.2.2.1, J.2.2.2.2.1, J.2.2.2.2.2.1, J.2.2.2.2.2.2.1, J.2.2.2.2.2.2.2.1, J.2.2.2.2.2.2.2.2)
abbrev XJ.tHome (J : XJ) : (Nat → Int32) := J.1.2.2.2.2.2.2.1
abbrev XJ.tHome' (J : XJ) (v : (Nat → Int32)) : XJ := ((J.1.1, J.1.2.1, J.1.2.2.1, J.1.2.2.2.1, J.1.2.2.2.2.1, J.1.2.2.2.2.2.1, v, J.1.2.2.2.2.2.2.2), J.2.1, J.2.2.1, J.2.2.2.1, J.2.2.2.2.1, J.2.2.2.2.2.1, J.2.2.2.2.2.2.1, J.2.2.2.2.2.2.2.1, J.2.2.2.2.2.2.2.2)
abbrev XJ.tWants (J : XJ) : (Nat → Int32) := J.1.2.2.2.2.2.2.2
abbrev XJ.tWants' (J : XJ) (v : (Nat → Int32)) : XJ := ((J.1.1, J.1.2.1, J.1.2.2.1, J.1.2.2.2.1, J.1.2.2.2.2.1, J.1.2.2.2.2.2.1, J.1.2.2.2.2.2.2.1, v), J.2.1, J.2.2.1, J.2.2.2.1, J.2.2.2.2.1, J.2.2.2.2.2.1, J.2.2.2.2.2.2.1, J.2.2.2.2.2.2.2.1, J.2.2.2.2.2.2.2.2)
abbrev XJ.nw (J : XJ) : ((Nat → Int32) × (Nat → Int32) × (Nat → Int32) × (Nat → Int32) × Int32) := J.2.1
abbrev XJ.nw' (J : XJ) (v : ((Nat → Int32) × (Nat → Int32) × (Nat → Int32) × (Nat → Int32) × Int32)) : XJ := (J.1, v, J.2.2.1, J.2.2.2.1, J.2.2.2.2.1, J.2.2.2.2.2.1, J.2.2.2.2.2.2.1, J.2.2.2.2.2.2.2.1, J.2.2.2.2.2.2.2.2)
abbrev XJ.nSeen (J : XJ) : (Nat → Int32) := J.2.1.1
abbrev XJ.nSeen' (J : XJ) (v : (Nat → Int32)) : XJ := (J.1, (v, J.2.1.2.1, J.2.1.2.2.1, J.2.1.2.2.2.1, J.2.1.2.2.2.2), J.2.2.1, J.2.2.2.1, J.2.2.2.2.1, J.2.2.2.2.2.1, J.2.2.2.2.2.2.1, J.2.2.2.2.2.2.2.1, J.2.2.2.2.2.2.2.2)
abbrev XJ.nHidden (J : XJ) : (Nat → Int32) := J.2.1.2.1
abbrev XJ.nHidden' (J : XJ) (v : (Nat → Int32)) : XJ := (J.1, (J.2.1.1, v, J.2.1.2.2.1, J.2.1.2.2.2.1, J.2.1.2.2.2.2), J.2.2.1, J.2.2.2.1, J.2.2.2.2.1, J.2.2.2.2.2.1, J.2.2.2.2.2.2.1, J.2.2.2.2.2.2.2.1, J.2.2.2.2.2.2.2.2)
abbrev XJ.nFaked (J : XJ) : (Nat → Int32) := J.2.1.2.2.1
abbrev XJ.nFaked' (J : XJ) (v : (Nat → Int32)) : XJ := (J.1, (J.2.1.1, J.2.1.2.1, v, J.2.1.2.2.2.1, J.2.1.2.2.2.2), J.2.2.1, J.2.2.2.1, J.2.2.2.2.1, J.2.2.2.2.2.1, J.2.2.2.2.2.2.1, J.2.2.2.2.2.2.2.1, J.2.2.2.2.2.2.2.2)
abbrev XJ.nHome (J : XJ) : (Nat → Int32) := J.2.1.2.2.2.1
abbrev XJ.nHome' (J : XJ) (v : (Nat → Int32)) : XJ := (J.1, (J.2.1.1, J.2.1.2.1, J.2.1.2.2.1, v, J.2.1.2.2.2.2), J.2.2.1, J.2.2.2.1, J.2.2.2.2.1, J.2.2.2.2.2.1, J.2.2.2.2.2.2.1, J.2.2.2.2.2.2.2.1, J.2.2.2.2.2.2.2.2)
abbrev XJ.nNight (J : XJ) : Int32 := J.2.1.2.2.2.2
abbrev XJ.nNight' (J : XJ) (v : Int32) : XJ := (J.1, (J.2.1.1, J.2.1.2.1, J.2.1.2.2.1, J.2.1.2.2.2.1, v), J.2.2.1, J.2.2.2.1, J.2.2.2.2.1, J.2.2.2.2.2.1, J.2.2.2.2.2.2.1, J.2.2.2.2.2.2.2.1, J.2.2.2.2.2.2.2.2)
abbrev XJ.sc (J : XJ) : (Int32 × Int32 × Int32 × Int32 × Int64) := J.2.2.1
abbrev XJ.sc' (J : XJ) (v : (Int32 × Int32 × Int32 × Int32 × Int64)) : XJ := (J.1, J.2.1, v, J.2.2.2.1, J.2.2.2.2.1, J.2.2.2.2.2.1, J.2.2.2.2.2.2.1, J.2.2.2.2.2.2.2.1, J.2.2.2.2.2.2.2.2)
abbrev XJ.kTyped (J : XJ) : Int32 := J.2.2.1.1
abbrev XJ.kTyped' (J : XJ) (v : Int32) : XJ := (J.1, J.2.1, (v, J.2.2.1.2.1, J.2.2.1.2.2.1, J.2.2.1.2.2.2.1, J.2.2.1.2.2.2.2), J.2.2.2.1, J.2.2.2.2.1, J.2.2.2.2.2.1, J.2.2.2.2.2.2.1, J.2.2.2.2.2.2.2.1, J.2.2.2.2.2.2.2.2)
abbrev XJ.kUndos (J : XJ) : Int32 := J.2.2.1.2.1
abbrev XJ.kUndos' (J : XJ) (v : Int32) : XJ := (J.1, J.2.1, (J.2.2.1.1, v, J.2.2.1.2.2.1, J.2.2.1.2.2.2.1, J.2.2.1.2.2.2.2), J.2.2.2.1, J.2.2.2.2.1, J.2.2.2.2.2.1, J.2.2.2.2.2.2.1, J.2.2.2.2.2.2.2.1, J.2.2.2.2.2.2.2.2)
abbrev XJ.kMostG (J : XJ) : Int32 := J.2.2.1.2.2.1
abbrev XJ.kMostG' (J : XJ) (v : Int32) : XJ := (J.1, J.2.1, (J.2.2.1.1, J.2.2.1.2.1, v, J.2.2.1.2.2.2.1, J.2.2.1.2.2.2.2), J.2.2.2.1, J.2.2.2.2.1, J.2.2.2.2.2.1, J.2.2.2.2.2.2.1, J.2.2.2.2.2.2.2.1, J.2.2.2.2.2.2.2.2)
abbrev XJ.kMM (J : XJ) : Int32 := J.2.2.1.2.2.2.1
abbrev XJ.kMM' (J : XJ) (v : Int32) : XJ := (J.1, J.2.1, (J.2.2.1.1, J.2.2.1.2.1, J.2.2.1.2.2.1, v, J.2.2.1.2.2.2.2), J.2.2.2.1, J.2.2.2.2.1, J.2.2.2.2.2.1, J.2.2.2.2.2.2.1, J.2.2.2.2.2.2.2.1, J.2.2.2.2.2.2.2.2)
abbrev XJ.kTrace (J : XJ) : Int64 := J.2.2.1.2.2.2.2
abbrev XJ.kTrace' (J : XJ) (v : Int64) : XJ := (J.1, J.2.1, (J.2.2.1.1, J.2.2.1.2.1, J.2.2.1.2.2.1, J.2.2.1.2.2.2.1, v), J.2.2.2.1, J.2.2.2.2.1, J.2.2.2.2.2.1, J.2.2.2.2.2.2.1, J.2.2.2.2.2.2.2.1, J.2.2.2.2.2.2.2.2)
abbrev XJ.ar (J : XJ) : ((Nat → Int32) × (Nat → Int32) × (Nat → Int32) × (Nat → Int32) × (Nat → Int32) × (Nat → Int32) × (Nat → Int32)) := J.2.2.2.1
abbrev XJ.ar' (J : XJ) (v : ((Nat → Int32) × (Nat → Int32) × (Nat → Int32) × (Nat → Int32) × (Nat → Int32) × (Nat → Int32) × (Nat → Int32))) : XJ := (J.1, J.2.1, J.2.2.1, v, J.2.2.2.2.1, J.2.2.2.2.2.1, J.2.2.2.2.2.2.1, J.2.2.2.2.2.2.2.1, J.2.2.2.2.2.2.2.2)
abbrev XJ.aGoing (J : XJ) : (Nat → Int32) := J.2.2.2.1.1
abbrev XJ.aGoing' (J : XJ) (v : (Nat → Int32)) : XJ := (J.1, J.2.1, J.2.2.1, (v, J.2.2.2.1.2.1, J.2.2.2.1.2.2.1, J.2.2.2.1.2.2.2.1, J.2.2.2.1.2.2.2.2.1, J.2.2.2.1.2.2.2.2.2.1, J.2.2.2.1.2.2.2.2.2.2), J.2.2.2.2.1, J.2.2.2.2.2.1, J.2.2.2.2.2.2.1, J.2.2.2.2.2.2.2.1, J.2.2.2.2.2.2.2.2)
abbrev XJ.aBy (J : XJ) : (Nat → Int32) := J.2.2.2.1.2.1
abbrev XJ.aBy' (J : XJ) (v : (Nat → Int32)) : XJ := (J.1, J.2.1, J.2.2.1, (J.2.2.2.1.1, v, J.2.2.2.1.2.2.1, J.2.2.2.1.2.2.2.1, J.2.2.2.1.2.2.2.2.1, J.2.2.2.1.2.2.2.2.2.1, J.2.2.2.1.2.2.2.2.2.2), J.2.2.2.2.1, J.2.2.2.2.2.1, J.2.2.2.2.2.2.1, J.2.2.2.2.2.2.2.1, J.2.2.2.2.2.2.2.2)
abbrev XJ.aGiven (J : XJ) : (Nat → Int32) := J.2.2.2.1.2.2.1
abbrev XJ.aGiven' (J : XJ) (v : (Nat → Int32)) : XJ := (J.1, J.2.1, J.2.2.1, (J.2.2.2.1.1, J.2.2.2.1.2.1, v, J.2.2.2.1.2.2.2.1, J.2.2.2.1.2.2.2.2.1, J.2.2.2.1.2.2.2.2.2.1, J.2.2.2.1.2.2.2.2.2.2), J.2.2.2.2.1, J.2.2.2.2.2.1, J.2.2.2.2.2.2.1, J.2.2.2.2.2.2.2.1, J.2.2.2.2.2.2.2.2)
abbrev XJ.aBest (J : XJ) : (Nat → Int32) := J.2.2.2.1.2.2.2.1
abbrev XJ.aBest' (J : XJ) (v : (Nat → Int32)) : XJ := (J.1, J.2.1, J.2.2.1, (J.2.2.2.1.1, J.2.2.2.1.2.1, J.2.2.2.1.2.2.1, v, J.2.2.2.1.2.2.2.2.1, J.2.2.2.1.2.2.2.2.2.1, J.2.2.2.1.2.2.2.2.2.2), J.2.2.2.2.1, J.2.2.2.2.2.1, J.2.2.2.2.2.2.1, J.2.2.2.2.2.2.2.1, J.2.2.2.2.2.2.2.2)
abbrev XJ.aMeas (J : XJ) : (Nat → Int32) := J.2.2.2.1.2.2.2.2.1
abbrev XJ.aMeas' (J : XJ) (v : (Nat → Int32)) : XJ := (J.1, J.2.1, J.2.2.1, (J.2.2.2.1.1, J.2.2.2.1.2.1, J.2.2.2.1.2.2.1, J.2.2.2.1.2.2.2.1, v, J.2.2.2.1.2.2.2.2.2.1, J.2.2.2.1.2.2.2.2.2.2), J.2.2.2.2.1, J.2.2.2.2.2.1, J.2.2.2.2.2.2.1, J.2.2.2.2.2.2.2.1, J.2.2.2.2.2.2.2.2)
abbrev XJ.aMNight (J : XJ) : (Nat → Int32) := J.2.2.2.1.2.2.2.2.2.1
abbrev XJ.aMNight' (J : XJ) (v : (Nat → Int32)) : XJ := (J.1, J.2.1, J.2.2.1, (J.2.2.2.1.1, J.2.2.2.1.2.1, J.2.2.2.1.2.2.1, J.2.2.2.1.2.2.2.1, J.2.2.2.1.2.2.2.2.1, v, J.2.2.2.1.2.2.2.2.2.2), J.2.2.2.2.1, J.2.2.2.2.2.1, J.2.2.2.2.2.2.1, J.2.2.2.2.2.2.2.1, J.2.2.2.2.2.2.2.2)
abbrev XJ.aText (J : XJ) : (Nat → Int32) := J.2.2.2.1.2.2.2.2.2.2
abbrev XJ.aText' (J : XJ) (v : (Nat → Int32)) : XJ := (J.1, J.2.1, J.2.2.1, (J.2.2.2.1.1, J.2.2.2.1.2.1, J.2.2.2.1.2.2.1, J.2.2.2.1.2.2.2.1, J.2.2.2.1.2.2.2.2.1, J.2.2.2.1.2.2.2.2.2.1, v), J.2.2.2.2.1, J.2.2.2.2.2.1, J.2.2.2.2.2.2.1, J.2.2.2.2.2.2.2.1, J.2.2.2.2.2.2.2.2)
abbrev XJ.rd (J : XJ) : (Int32 × Int32 × Int32 × Int32 × Int32 × Int32) := J.2.2.2.2.1
abbrev XJ.rd' (J : XJ) (v : (Int32 × Int32 × Int32 × Int32 × Int32 × Int32)) : XJ := (J.1, J.2.1, J.2.2.1, J.2.2.2.1, v, J.2.2.2.2.2.1, J.2.2.2.2.2.2.1, J.2.2.2.2.2.2.2.1, J.2.2.2.2.2.2.2.2)
abbrev XJ.rNext (J : XJ) : Int32 := J.2.2.2.2.1.1
abbrev XJ.rNext' (J : XJ) (v : Int32) : XJ := (J.1, J.2.1, J.2.2.1, J.2.2.2.1, (v, J.2.2.2.2.1.2.1, J.2.2.2.2.1.2.2.1, J.2.2.2.2.1.2.2.2.1, J.2.2.2.2.1.2.2.2.2.1, J.2.2.2.2.1.2.2.2.2.2), J.2.2.2.2.2.1, J.2.2.2.2.2.2.1, J.2.2.2.2.2.2.2.1, J.2.2.2.2.2.2.2.2)
abbrev XJ.rBegun (J : XJ) : Int32 := J.2.2.2.2.1.2.1
abbrev XJ.rBegun' (J : XJ) (v : Int32) : XJ := (J.1, J.2.1, J.2.2.1, J.2.2.2.1, (J.2.2.2.2.1.1, v, J.2.2.2.2.1.2.2.1, J.2.2.2.2.1.2.2.2.1, J.2.2.2.2.1.2.2.2.2.1, J.2.2.2.2.1.2.2.2.2.2), J.2.2.2.2.2.1, J.2.2.2.2.2.2.1, J.2.2.2.2.2.2.2.1, J.2.2.2.2.2.2.2.2)
abbrev XJ.rWord (J : XJ) : Int32 := J.2.2.2.2.1.2.2.1
abbrev XJ.rWord' (J : XJ) (v : Int32) : XJ := (J.1, J.2.1, J.2.2.1, J.2.2.2.1, (J.2.2.2.2.1.1, J.2.2.2.2.1.2.1, v, J.2.2.2.2.1.2.2.2.1, J.2.2.2.2.1.2.2.2.2.1, J.2.2.2.2.1.2.2.2.2.2), J.2.2.2.2.2.1, J.2.2.2.2.2.2.1, J.2.2.2.2.2.2.2.1, J.2.2.2.2.2.2.2.2)
abbrev XJ.rNumber (J : XJ) : Int32 := J.2.2.2.2.1.2.2.2.1
abbrev XJ.rNumber' (J : XJ) (v : Int32) : XJ := (J.1, J.2.1, J.2.2.1, J.2.2.2.1, (J.2.2.2.2.1.1, J.2.2.2.2.1.2.1, J.2.2.2.2.1.2.2.1, v, J.2.2.2.2.1.2.2.2.2.1, J.2.2.2.2.1.2.2.2.2.2), J.2.2.2.2.2.1, J.2.2.2.2.2.2.1, J.2.2.2.2.2.2.2.1, J.2.2.2.2.2.2.2.2)
abbrev XJ.rStop (J : XJ) : Int32 := J.2.2.2.2.1.2.2.2.2.1
abbrev XJ.rStop' (J : XJ) (v : Int32) : XJ := (J.1, J.2.1, J.2.2.1, J.2.2.2.1, (J.2.2.2.2.1.1, J.2.2.2.2.1.2.1, J.2.2.2.2.1.2.2.1, J.2.2.2.2.1.2.2.2.1, v, J.2.2.2.2.1.2.2.2.2.2), J.2.2.2.2.2.1, J.2.2.2.2.2.2.1, J.2.2.2.2.2.2.2.1, J.2.2.2.2.2.2.2.2)
abbrev XJ.rItems (J : XJ) : Int32 := J.2.2.2.2.1.2.2.2.2.2
abbrev XJ.rItems' (J : XJ) (v : Int32) : XJ := (J.1, J.2.1, J.2.2.1, J.2.2.2.1, (J.2.2.2.2.1.1, J.2.2.2.2.1.2.1, J.2.2.2.2.1.2.2.1, J.2.2.2.2.1.2.2.2.1, J.2.2.2.2.1.2.2.2.2.1, v), J.2.2.2.2.2.1, J.2.2.2.2.2.2.1, J.2.2.2.2.2.2.2.1, J.2.2.2.2.2.2.2.2)
abbrev XJ.dr (J : XJ) : (Int32 × Int32 × Int32 × (Nat → Int32) × (Nat → Int32) × (Nat → Int32) × (Nat → Int32) × (Nat → Int32)) := J.2.2.2.2.2.1
abbrev XJ.dr' (J : XJ) (v : (Int32 × Int32 × Int32 × (Nat → Int32) × (Nat → Int32) × (Nat → Int32) × (Nat → Int32) × (Nat → Int32))) : XJ := (J.1, J.2.1, J.2.2.1, J.2.2.2.1, J.2.2.2.2.1, v, J.2.2.2.2.2.2.1, J.2.2.2.2.2.2.2.1, J.2.2.2.2.2.2.2.2)
abbrev XJ.dYards (J : XJ) : Int32 := J.2.2.2.2.2.1.1
abbrev XJ.dYards' (J : XJ) (v : Int32) : XJ := (J.1, J.2.1, J.2.2.1, J.2.2.2.1, J.2.2.2.2.1, (v, J.2.2.2.2.2.1.2.1, J.2.2.2.2.2.1.2.2.1, J.2.2.2.2.2.1.2.2.2.1, J.2.2.2.2.2.1.2.2.2.2.1, J.2.2.2.2.2.1.2.2.2.2.2.1, J.2.2.2.2.2.1.2.2.2.2.2.2.1, J.2.2.2.2.2.1.2.2.2.2.2.2.2), J.2.2.2.2.2.2.1, J.2.2.2.2.2.2.2.1, J.2.2.2.2.2.2.2.2)
abbrev XJ.dStreets (J : XJ) : Int32 := J.2.2.2.2.2.1.2.1
abbrev XJ.dStreets' (J : XJ) (v : Int32) : XJ := (J.1, J.2.1, J.2.2.1, J.2.2.2.1, J.2.2.2.2.1, (J.2.2.2.2.2.1.1, v, J.2.2.2.2.2.1.2.2.1, J.2.2.2.2.2.1.2.2.2.1, J.2.2.2.2.2.1.2.2.2.2.1, J.2.2.2.2.2.1.2.2.2.2.2.1, J.2.2.2.2.2.1.2.2.2.2.2.2.1, J.2.2.2.2.2.1.2.2.2.2.2.2.2), J.2.2.2.2.2.2.1, J.2.2.2.2.2.2.2.1, J.2.2.2.2.2.2.2.2)
abbrev XJ.dCitizens (J : XJ) : Int32 := J.2.2.2.2.2.1.2.2.1
abbrev XJ.dCitizens' (J : XJ) (v : Int32) : XJ := (J.1, J.2.1, J.2.2.1, J.2.2.2.1, J.2.2.2.2.1, (J.2.2.2.2.2.1.1, J.2.2.2.2.2.1.2.1, v, J.2.2.2.2.2.1.2.2.2.1, J.2.2.2.2.2.1.2.2.2.2.1, J.2.2.2.2.2.1.2.2.2.2.2.1, J.2.2.2.2.2.1.2.2.2.2.2.2.1, J.2.2.2.2.2.1.2.2.2.2.2.2.2), J.2.2.2.2.2.2.1, J.2.2.2.2.2.2.2.1, J.2.2.2.2.2.2.2.2)
abbrev XJ.dOne (J : XJ) : (Nat → Int32) := J.2.2.2.2.2.1.2.2.2.1
abbrev XJ.dOne' (J : XJ) (v : (Nat → Int32)) : XJ := (J.1, J.2.1, J.2.2.1, J.2.2.2.1, J.2.2.2.2.1, (J.2.2.2.2.2.1.1, J.2.2.2.2.2.1.2.1, J.2.2.2.2.2.1.2.2.1, v, J.2.2.2.2.2.1.2.2.2.2.1, J.2.2.2.2.2.1.2.2.2.2.2.1, J.2.2.2.2.2.1.2.2.2.2.2.2.1, J.2.2.2.2.2.1.2.2.2.2.2.2.2), J.2.2.2.2.2.2.1, J.2.2.2.2.2.2.2.1, J.2.2.2.2.2.2.2.2)
abbrev XJ.dOther (J : XJ) : (Nat → Int32) := J.2.2.2.2.2.1.2.2.2.2.1
abbrev XJ.dOther' (J : XJ) (v : (Nat → Int32)) : XJ := (J.1, J.2.1, J.2.2.1, J.2.2.2.1, J.2.2.2.2.1, (J.2.2.2.2.2.1.1, J.2.2.2.2.2.1.2.1, J.2.2.2.2.2.1.2.2.1, J.2.2.2.2.2.1.2.2.2.1, v, J.2.2.2.2.2.1.2.2.2.2.2.1, J.2.2.2.2.2.1.2.2.2.2.2.2.1, J.2.2.2.2.2.1.2.2.2.2.2.2.2), J.2.2.2.2.2.2.1, J.2.2.2.2.2.2.2.1, J.2.2.2.2.2.2.2.2)
abbrev XJ.dOld (J : XJ) : (Nat → Int32) := J.2.2.2.2.2.1.2.2.2.2.2.1
abbrev XJ.dOld' (J : XJ) (v : (Nat → Int32)) : XJ := (J.1, J.2.1, J.2.2.1, J.2.2.2.1, J.2.2.2.2.1, (J.2.2.2.2.2.1.1, J.2.2.2.2.2.1.2.1, J.2.2.2.2.2.1.2.2.1, J.2.2.2.2.2.1.2.2.2.1, J.2.2.2.2.2.1.2.2.2.2.1, v, J.2.2.2.2.2.1.2.2.2.2.2.2.1, J.2.2.2.2.2.1.2.2.2.2.2.2.2), J.2.2.2.2.2.2.1, J.2.2.2.2.2.2.2.1, J.2.2.2.2.2.2.2.2)
abbrev XJ.dHome (J : XJ) : (Nat → Int32) := J.2.2.2.2.2.1.2.2.2.2.2.2.1
abbrev XJ.dHome' (J : XJ) (v : (Nat → Int32)) : XJ := (J.1, J.2.1, J.2.2.1, J.2.2.2.1, J.2.2.2.2.1, (J.2.2.2.2.2.1.1, J.2.2.2.2.2.1.2.1, J.2.2.2.2.2.1.2.2.1, J.2.2.2.2.2.1.2.2.2.1, J.2.2.2.2.2.1.2.2.2.2.1, J.2.2.2.2.2.1.2.2.2.2.2.1, v, J.2.2.2.2.2.1.2.2.2.2.2.2.2), J.2.2.2.2.2.2.1, J.2.2.2.2.2.2.2.1, J.2.2.2.2.2.2.2.2)
abbrev XJ.dWants (J : XJ) : (Nat → Int32) := J.2.2.2.2.2.1.2.2.2.2.2.2.2
abbrev XJ.dWants' (J : XJ) (v : (Nat → Int32)) : XJ := (J.1, J.2.1, J.2.2.1, J.2.2.2.1, J.2.2.2.2.1, (J.2.2.2.2.2.1.1, J.2.2.2.2.2.1.2.1, J.2.2.2.2.2.1.2.2.1, J.2.2.2.2.2.1.2.2.2.1, J.2.2.2.2.2.1.2.2.2.2.1, J.2.2.2.2.2.1.2.2.2.2.2.1, J.2.2.2.2.2.1.2.2.2.2.2.2.1, v), J.2.2.2.2.2.2.1, J.2.2.2.2.2.2.2.1, J.2.2.2.2.2.2.2.2)
abbrev XJ.pm (J : XJ) : (Nat → Nat) := J.2.2.2.2.2.2.1
abbrev XJ.pm' (J : XJ) (v : (Nat → Nat)) : XJ := (J.1, J.2.1, J.2.2.1, J.2.2.2.1, J.2.2.2.2.1, J.2.2.2.2.2.1, v, J.2.2.2.2.2.2.2.1, J.2.2.2.2.2.2.2.2)
abbrev XJ.im (J : XJ) : (Int32 × Int32 × Int32 × Int32) := J.2.2.2.2.2.2.2.1
abbrev XJ.im' (J : XJ) (v : (Int32 × Int32 × Int32 × Int32)) : XJ := (J.1, J.2.1, J.2.2.1, J.2.2.2.1, J.2.2.2.2.1, J.2.2.2.2.2.1, J.2.2.2.2.2.2.1, v, J.2.2.2.2.2.2.2.2)
abbrev XJ.iUnd0 (J : XJ) : Int32 := J.2.2.2.2.2.2.2.1.1
abbrev XJ.iUnd0' (J : XJ) (v : Int32) : XJ := (J.1, J.2.1, J.2.2.1, J.2.2.2.1, J.2.2.2.2.1, J.2.2.2.2.2.1, J.2.2.2.2.2.2.1, (v, J.2.2.2.2.2.2.2.1.2.1, J.2.2.2.2.2.2.2.1.2.2.1, J.2.2.2.2.2.2.2.1.2.2.2), J.2.2.2.2.2.2.2.2)
abbrev XJ.iKept0 (J : XJ) : Int32 := J.2.2.2.2.2.2.2.1.2.1
abbrev XJ.iKept0' (J : XJ) (v : Int32) : XJ := (J.1, J.2.1, J.2.2.1, J.2.2.2.1, J.2.2.2.2.1, J.2.2.2.2.2.1, J.2.2.2.2.2.2.1, (J.2.2.2.2.2.2.2.1.1, v, J.2.2.2.2.2.2.2.1.2.2.1, J.2.2.2.2.2.2.2.1.2.2.2), J.2.2.2.2.2.2.2.2)
abbrev XJ.iUnd1 (J : XJ) : Int32 := J.2.2.2.2.2.2.2.1.2.2.1
abbrev XJ.iUnd1' (J : XJ) (v : Int32) : XJ := (J.1, J.2.1, J.2.2.1, J.2.2.2.1, J.2.2.2.2.1, J.2.2.2.2.2.1, J.2.2.2.2.2.2.1, (J.2.2.2.2.2.2.2.1.1, J.2.2.2.2.2.2.2.1.2.1, v, J.2.2.2.2.2.2.2.1.2.2.2), J.2.2.2.2.2.2.2.2)
abbrev XJ.iKept1 (J : XJ) : Int32 := J.2.2.2.2.2.2.2.1.2.2.2
abbrev XJ.iKept1' (J : XJ) (v : Int32) : XJ := (J.1, J.2.1, J.2.2.1, J.2.2.2.1, J.2.2.2.2.1, J.2.2.2.2.2.1, J.2.2.2.2.2.2.1, (J.2.2.2.2.2.2.2.1.1, J.2.2.2.2.2.2.2.1.2.1, J.2.2.2.2.2.2.2.1.2.2.1, v), J.2.2.2.2.2.2.2.2)
abbrev XJ.pl (J : XJ) : (Nat → (Nat → Int32) × (Nat → Int32) × (Nat → Int32) × (Nat → Int32) × Int32) := J.2.2.2.2.2.2.2.2
abbrev XJ.pl' (J : XJ) (v : (Nat → (Nat → Int32) × (Nat → Int32) × (Nat → Int32) × (Nat → Int32) × Int32)) : XJ := (J.1, J.2.1, J.2.2.1, J.2.2.2.1, J.2.2.2.2.1, J.2.2.2.2.2.1, J.2.2.2.2.2.2.1, J.2.2.2.2.2.2.2.1, v)
abbrev MJ : Type := (Int32 × Int32 × Int32 × Int32 × Int32 × Int32 × Int32 × Int32 × Int64) × ((Nat → Int32) × (Nat → Int32) × (Nat → Int32) × (Nat → Int32) × (Nat → Int32) × (Nat → Int32) × (Nat → Int32) × (Nat → Int32) × (Nat → Int32) × (Nat → Int32) × (Nat → Int32) × (Nat → Int32) × (Nat → Int32) × (Nat → Int32) × (Nat → Int32) × (Nat → Int32) × (Nat → Int32))
abbrev MJ.sc (J : MJ) : (Int32 × Int32 × Int32 × Int32 × Int32 × Int32 × Int32 × Int32 × Int64) := J.1
abbrev MJ.sc' (J : MJ) (v : (Int32 × Int32 × Int32 × Int32 × Int32 × Int32 × Int32 × Int32 × Int64)) : MJ := (v, J.2)
abbrev MJ.mTyped (J : MJ) : Int32 := J.1.1
abbrev MJ.mTyped' (J : MJ) (v : Int32) : MJ := ((v, J.1.2.1, J.1.2.2.1, J.1.2.2.2.1, J.1.2.2.2.2.1, J.1.2.2.2.2.2.1, J.1.2.2.2.2.2.2.1, J.1.2.2.2.2.2.2.2.1, J.1.2.2.2.2.2.2.2.2), J.2)
abbrev MJ.mAt (J : MJ) : Int32 := J.1.2.1
abbrev MJ.mAt' (J : MJ) (v : Int32) : MJ := ((J.1.1, v, J.1.2.2.1, J.1.2.2.2.1, J.1.2.2.2.2.1, J.1.2.2.2.2.2.1, J.1.2.2.2.2.2.2.1, J.1.2.2.2.2.2.2.2.1, J.1.2.2.2.2.2.2.2.2), J.2)
abbrev MJ.mPlace (J : MJ) : Int32 := J.1.2.2.1
abbrev MJ.mPlace' (J : MJ) (v : Int32) : MJ := ((J.1.1, J.1.2.1, v, J.1.2.2.2.1, J.1.2.2.2.2.1, J.1.2.2.2.2.2.1, J.1.2.2.2.2.2.2.1, J.1.2.2.2.2.2.2.2.1, J.1.2.2.2.2.2.2.2.2), J.2)
abbrev MJ.mSort (J : MJ) : Int32 := J.1.2.2.2.1
abbrev MJ.mSort' (J : MJ) (v : Int32) : MJ := ((J.1.1, J.1.2.1, J.1.2.2.1, v, J.1.2.2.2.2.1, J.1.2.2.2.2.2.1, J.1.2.2.2.2.2.2.1, J.1.2.2.2.2.2.2.2.1, J.1.2.2.2.2.2.2.2.2), J.2)
abbrev MJ.mValue (J : MJ) : Int32 := J.1.2.2.2.2.1
abbrev MJ.mValue' (J : MJ) (v : Int32) : MJ := ((J.1.1, J.1.2.1, J.1.2.2.1, J.1.2.2.2.1, v, J.1.2.2.2.2.2.1, J.1.2.2.2.2.2.2.1, J.1.2.2.2.2.2.2.2.1, J.1.2.2.2.2.2.2.2.2), J.2)
abbrev MJ.mWrong (J : MJ) : Int32 := J.1.2.2.2.2.2.1
abbrev MJ.mWrong' (J : MJ) (v : Int32) : MJ := ((J.1.1, J.1.2.1, J.1.2.2.1, J.1.2.2.2.1, J.1.2.2.2.2.1, v, J.1.2.2.2.2.2.2.1, J.1.2.2.2.2.2.2.2.1, J.1.2.2.2.2.2.2.2.2), J.2)
abbrev MJ.mItems (J : MJ) : Int32 := J.1.2.2.2.2.2.2.1
abbrev MJ.mItems' (J : MJ) (v : Int32) : MJ := ((J.1.1, J.1.2.1, J.1.2.2.1, J.1.2.2.2.1, J.1.2.2.2.2.1, J.1.2.2.2.2.2.1, v, J.1.2.2.2.2.2.2.2.1, J.1.2.2.2.2.2.2.2.2), J.2)
abbrev MJ.mFacts (J : MJ) : Int32 := J.1.2.2.2.2.2.2.2.1
abbrev MJ.mFacts' (J : MJ) (v : Int32) : MJ := ((J.1.1, J.1.2.1, J.1.2.2.1, J.1.2.2.2.1, J.1.2.2.2.2.1, J.1.2.2.2.2.2.1, J.1.2.2.2.2.2.2.1, v, J.1.2.2.2.2.2.2.2.2), J.2)
abbrev MJ.mTrace (J : MJ) : Int64 := J.1.2.2.2.2.2.2.2.2
abbrev MJ.mTrace' (J : MJ) (v : Int64) : MJ := ((J.1.1, J.1.2.1, J.1.2.2.1, J.1.2.2.2.1, J.1.2.2.2.2.1, J.1.2.2.2.2.2.1, J.1.2.2.2.2.2.2.1, J.1.2.2.2.2.2.2.2.1, v), J.2)
abbrev MJ.ar (J : MJ) : ((Nat → Int32) × (Nat → Int32) × (Nat → Int32) × (Nat → Int32) × (Nat → Int32) × (Nat → Int32) × (Nat → Int32) × (Nat → Int32) × (Nat → Int32) × (Nat → Int32) × (Nat → Int32) × (Nat → Int32) × (Nat → Int32) × (Nat → Int32) × (Nat → Int32) × (Nat → Int32) × (Nat → Int32)) := J.2
abbrev MJ.ar' (J : MJ) (v : ((Nat → Int32) × (Nat → Int32) × (Nat → Int32) × (Nat → Int32) × (Nat → Int32) × (Nat → Int32) × (Nat → Int32) × (Nat → Int32) × (Nat → Int32) × (Nat → Int32) × (Nat → Int32) × (Nat → Int32) × (Nat → Int32) × (Nat → Int32) × (Nat → Int32) × (Nat → Int32) × (Nat → Int32))) : MJ := (J.1, v)
abbrev MJ.mText (J : MJ) : (Nat → Int32) := J.2.1
abbrev MJ.mText' (J : MJ) (v : (Nat → Int32)) : MJ := (J.1, (v, J.2.2.1, J.2.2.2.1, J.2.2.2.2.1, J.2.2.2.2.2.1, J.2.2.2.2.2.2.1, J.2.2.2.2.2.2.2.1, J.2.2.2.2.2.2.2.2.1, J.2.2.2.2.2.2.2.2.2.1, J.2.2.2.2.2.2.2.2.2.2.1, J.2.2.2.2.2.2.2.2.2.2.2.1, J.2.2.2.2.2.2.2.2.2.2.2.2.1, J.2.2.2.2.2.2.2.2.2.2.2.2.2.1, J.2.2.2.2.2.2.2.2.2.2.2.2.2.2.1, J.2.2.2.2.2.2.2.2.2.2.2.2.2.2.2.1, J.2.2.2.2.2.2.2.2.2.2.2.2.2.2.2.2.1, J.2.2.2.2.2.2.2.2.2.2.2.2.2.2.2.2.2))
abbrev MJ.mYards (J : MJ) : (Nat → Int32) := J.2.2.1
abbrev MJ.mYards' (J : MJ) (v : (Nat → Int32)) : MJ := (J.1, (J.2.1, v, J.2.2.2.1, J.2.2.2.2.1, J.2.2.2.2.2.1, J.2.2.2.2.2.2.1, J.2.2.2.2.2.2.2.1, J.2.2.2.2.2.2.2.2.1, J.2.2.2.2.2.2.2.2.2.1, J.2.2.2.2.2.2.2.2.2.2.1, J.2.2.2.2.2.2.2.2.2.2.2.1, J.2.2.2.2.2.2.2.2.2.2.2.2.1, J.2.2.2.2.2.2.2.2.2.2.2.2.2.1, J.2.2.2.2.2.2.2.2.2.2.2.2.2.2.1, J.2.2.2.2.2.2.2.2.2.2.2.2.2.2.2.1, J.2.2.2.2.2.2.2.2.2.2.2.2.2.2.2.2.1, J.2.2.2.2.2.2.2.2.2.2.2.2.2.2.2.2.2))
abbrev MJ.mStreets (J : MJ) : (Nat → Int32) := J.2.2.2.1
abbrev MJ.mStreets' (J : MJ) (v : (Nat → Int32)) : MJ := (J.1, (J.2.1, J.2.2.1, v, J.2.2.2.2.1, J.2.2.2.2.2.1, J.2.2.2.2.2.2.1, J.2.2.2.2.2.2.2.1, J.2.2.2.2.2.2.2.2.1, J.2.2.2.2.2.2.2.2.2.1, J.2.2.2.2.2.2.2.2.2.2.1, J.2.2.2.2.2.2.2.2.2.2.2.1, J.2.2.2.2.2.2.2.2.2.2.2.2.1, J.2.2.2.2.2.2.2.2.2.2.2.2.2.1, J.2.2.2.2.2.2.2.2.2.2.2.2.2.2.1, J.2.2.2.2.2.2.2.2.2.2.2.2.2.2.2.1, J.2.2.2.2.2.2.2.2.2.2.2.2.2.2.2.2.1, J.2.2.2.2.2.2.2.2.2.2.2.2.2.2.2.2.2))
abbrev MJ.mFrom (J : MJ) : (Nat → Int32) := J.2.2.2.2.1
abbrev MJ.mFrom' (J : MJ) (v : (Nat → Int32)) : MJ := (J.1, (J.2.1, J.2.2.1, J.2.2.2.1, v, J.2.2.2.2.2.1, J.2.2.2.2.2.2.1, J.2.2.2.2.2.2.2.1, J.2.2.2.2.2.2.2.2.1, J.2.2.2.2.2.2.2.2.2.1, J.2.2.2.2.2.2.2.2.2.2.1, J.2.2.2.2.2.2.2.2.2.2.2.1, J.2.2.2.2.2.2.2.2.2.2.2.2.1, J.2.2.2.2.2.2.2.2.2.2.2.2.2.1, J.2.2.2.2.2.2.2.2.2.2.2.2.2.2.1, J.2.2.2.2.2.2.2.2.2.2.2.2.2.2.2.1, J.2.2.2.2.2.2.2.2.2.2.2.2.2.2.2.2.1, J.2.2.2.2.2.2.2.2.2.2.2.2.2.2.2.2.2))
abbrev MJ.mTo (J : MJ) : (Nat → Int32) := J.2.2.2.2.2.1
abbrev MJ.mTo' (J : MJ) (v : (Nat → Int32)) : MJ := (J.1, (J.2.1, J.2.2.1, J.2.2.2.1, J.2.2.2.2.1, v, J.2.2.2.2.2.2.1, J.2.2.2.2.2.2.2.1, J.2.2.2.2.2.2.2.2.1, J.2.2.2.2.2.2.2.2.2.1, J.2.2.2.2.2.2.2.2.2.2.1, J.2.2.2.2.2.2.2.2.2.2.2.1, J.2.2.2.2.2.2.2.2.2.2.2.2.1, J.2.2.2.2.2.2.2.2.2.2.2.2.2.1, J.2.2.2.2.2.2.2.2.2.2.2.2.2.2.1, J.2.2.2.2.2.2.2.2.2.2.2.2.2.2.2.1, J.2.2.2.2.2.2.2.2.2.2.2.2.2.2.2.2.1, J.2.2.2.2.2.2.2.2.2.2.2.2.2.2.2.2.2))
abbrev MJ.mOld (J : MJ) : (Nat → Int32) := J.2.2.2.2.2.2.1
abbrev MJ.mOld' (J : MJ) (v : (Nat → Int32)) : MJ := (J.1, (J.2.1, J.2.2.1, J.2.2.2.1, J.2.2.2.2.1, J.2.2.2.2.2.1, v, J.2.2.2.2.2.2.2.1, J.2.2.2.2.2.2.2.2.1, J.2.2.2.2.2.2.2.2.2.1, J.2.2.2.2.2.2.2.2.2.2.1, J.2.2.2.2.2.2.2.2.2.2.2.1, J.2.2.2.2.2.2.2.2.2.2.2.2.1, J.2.2.2.2.2.2.2.2.2.2.2.2.2.1, J.2.2.2.2.2.2.2.2.2.2.2.2.2.2.1, J.2.2.2.2.2.2.2.2.2.2.2.2.2.2.2.1, J.2.2.2.2.2.2.2.2.2.2.2.2.2.2.2.2.1, J.2.2.2.2.2.2.2.2.2.2.2.2.2.2.2.2.2))
abbrev MJ.mPeople (J : MJ) : (Nat → Int32) := J.2.2.2.2.2.2.2.1
abbrev MJ.mPeople' (J : MJ) (v : (Nat → Int32)) : MJ := (J.1, (J.2.1, J.2.2.1, J.2.2.2.1, J.2.2.2.2.1, J.2.2.2.2.2.1, J.2.2.2.2.2.2.1, v, J.2.2.2.2.2.2.2.2.1, J.2.2.2.2.2.2.2.2.2.1, J.2.2.2.2.2.2.2.2.2.2.1, J.2.2.2.2.2.2.2.2.2.2.2.1, J.2.2.2.2.2.2.2.2.2.2.2.2.1, J.2.2.2.2.2.2.2.2.2.2.2.2.2.1, J.2.2.2.2.2.2.2.2.2.2.2.2.2.2.1, J.2.2.2.2.2.2.2.2.2.2.2.2.2.2.2.1, J.2.2.2.2.2.2.2.2.2.2.2.2.2.2.2.2.1, J.2.2.2.2.2.2.2.2.2.2.2.2.2.2.2.2.2))
abbrev MJ.mHome (J : MJ) : (Nat → Int32) := J.2.2.2.2.2.2.2.2.1
abbrev MJ.mHome' (J : MJ) (v : (Nat → Int32)) : MJ := (J.1, (J.2.1, J.2.2.1, J.2.2.2.1, J.2.2.2.2.1, J.2.2.2.2.2.1, J.2.2.2.2.2.2.1, J.2.2.2.2.2.2.2.1, v, J.2.2.2.2.2.2.2.2.2.1, J.2.2.2.2.2.2.2.2.2.2.1, J.2.2.2.2.2.2.2.2.2.2.2.1, J.2.2.2.2.2.2.2.2.2.2.2.2.1, J.2.2.2.2.2.2.2.2.2.2.2.2.2.1, J.2.2.2.2.2.2.2.2.2.2.2.2.2.2.1, J.2.2.2.2.2.2.2.2.2.2.2.2.2.2.2.1, J.2.2.2.2.2.2.2.2.2.2.2.2.2.2.2.2.1, J.2.2.2.2.2.2.2.2.2.2.2.2.2.2.2.2.2))
abbrev MJ.mWants (J : MJ) : (Nat → Int32) := J.2.2.2.2.2.2.2.2.2.1
abbrev MJ.mWants' (J : MJ) (v : (Nat → Int32)) : MJ := (J.1, (J.2.1, J.2.2.1, J.2.2.2.1, J.2.2.2.2.1, J.2.2.2.2.2.1, J.2.2.2.2.2.2.1, J.2.2.2.2.2.2.2.1, J.2.2.2.2.2.2.2.2.1, v, J.2.2.2.2.2.2.2.2.2.2.1, J.2.2.2.2.2.2.2.2.2.2.2.1, J.2.2.2.2.2.2.2.2.2.2.2.2.1, J.2.2.2.2.2.2.2.2.2.2.2.2.2.1, J.2.2.2.2.2.2.2.2.2.2.2.2.2.2.1, J.2.2.2.2.2.2.2.2.2.2.2.2.2.2.2.1, J.2.2.2.2.2.2.2.2.2.2.2.2.2.2.2.2.1, J.2.2.2.2.2.2.2.2.2.2.2.2.2.2.2.2.2))
abbrev MJ.mNow (J : MJ) : (Nat → Int32) := J.2.2.2.2.2.2.2.2.2.2.1
abbrev MJ.mNow' (J : MJ) (v : (Nat → Int32)) : MJ := (J.1, (J.2.1, J.2.2.1, J.2.2.2.1, J.2.2.2.2.1, J.2.2.2.2.2.1, J.2.2.2.2.2.2.1, J.2.2.2.2.2.2.2.1, J.2.2.2.2.2.2.2.2.1, J.2.2.2.2.2.2.2.2.2.1, v, J.2.2.2.2.2.2.2.2.2.2.2.1, J.2.2.2.2.2.2.2.2.2.2.2.2.1, J.2.2.2.2.2.2.2.2.2.2.2.2.2.1, J.2.2.2.2.2.2.2.2.2.2.2.2.2.2.1, J.2.2.2.2.2.2.2.2.2.2.2.2.2.2.2.1, J.2.2.2.2.2.2.2.2.2.2.2.2.2.2.2.2.1, J.2.2.2.2.2.2.2.2.2.2.2.2.2.2.2.2.2))
abbrev MJ.mKnown (J : MJ) : (Nat → Int32) := J.2.2.2.2.2.2.2.2.2.2.2.1
abbrev MJ.mKnown' (J : MJ) (v : (Nat → Int32)) : MJ := (J.1, (J.2.1, J.2.2.1, J.2.2.2.1, J.2.2.2.2.1, J.2.2.2.2.2.1, J.2.2.2.2.2.2.1, J.2.2.2.2.2.2.2.1, J.2.2.2.2.2.2.2.2.1, J.2.2.2.2.2.2.2.2.2.1, J.2.2.2.2.2.2.2.2.2.2.1, v, J.2.2.2.2.2.2.2.2.2.2.2.2.1, J.2.2.2.2.2.2.2.2.2.2.2.2.2.1, J.2.2.2.2.2.2.2.2.2.2.2.2.2.2.1, J.2.2.2.2.2.2.2.2.2.2.2.2.2.2.2.1, J.2.2.2.2.2.2.2.2.2.2.2.2.2.2.2.2.1, J.2.2.2.2.2.2.2.2.2.2.2.2.2.2.2.2.2))
abbrev MJ.mBefore (J : MJ) : (Nat → Int32) := J.2.2.2.2.2.2.2.2.2.2.2.2.1
abbrev MJ.mBefore' (J : MJ) (v : (Nat → Int32)) : MJ := (J.1, (J.2.1, J.2.2.1, J.2.2.2.1, J.2.2.2.2.1, J.2.2.2.2.2.1, J.2.2.2.2.2.2.1, J.2.2.2.2.2.2.2.1, J.2.2.2.2.2.2.2.2.1, J.2.2.2.2.2.2.2.2.2.1, J.2.2.2.2.2.2.2.2.2.2.1, J.2.2.2.2.2.2.2.2.2.2.2.1, v, J.2.2.2.2.2.2.2.2.2.2.2.2.2.1, J.2.2.2.2.2.2.2.2.2.2.2.2.2.2.1, J.2.2.2.2.2.2.2.2.2.2.2.2.2.2.2.1, J.2.2.2.2.2.2.2.2.2.2.2.2.2.2.2.2.1, J.2.2.2.2.2.2.2.2.2.2.2.2.2.2.2.2.2))
abbrev MJ.mStore (J : MJ) : (Nat → Int32) := J.2.2.2.2.2.2.2.2.2.2.2.2.2.1
abbrev MJ.mStore' (J : MJ) (v : (Nat → Int32)) : MJ := (J.1, (J.2.1, J.2.2.1, J.2.2.2.1, J.2.2.2.2.1, J.2.2.2.2.2.1, J.2.2.2.2.2.2.1, J.2.2.2.2.2.2.2.1, J.2.2.2.2.2.2.2.2.1, J.2.2.2.2.2.2.2.2.2.1, J.2.2.2.2.2.2.2.2.2.2.1, J.2.2.2.2.2.2.2.2.2.2.2.1, J.2.2.2.2.2.2.2.2.2.2.2.2.1, v, J.2.2.2.2.2.2.2.2.2.2.2.2.2.2.1, J.2.2.2.2.2.2.2.2.2.2.2.2.2.2.2.1, J.2.2.2.2.2.2.2.2.2.2.2.2.2.2.2.2.1, J.2.2.2.2.2.2.2.2.2.2.2.2.2.2.2.2.2))
abbrev MJ.mKept (J : MJ) : (Nat → Int32) := J.2.2.2.2.2.2.2.2.2.2.2.2.2.2.1
abbrev MJ.mKept' (J : MJ) (v : (Nat → Int32)) : MJ := (J.1, (J.2.1, J.2.2.1, J.2.2.2.1, J.2.2.2.2.1, J.2.2.2.2.2.1, J.2.2.2.2.2.2.1, J.2.2.2.2.2.2.2.1, J.2.2.2.2.2.2.2.2.1, J.2.2.2.2.2.2.2.2.2.1, J.2.2.2.2.2.2.2.2.2.2.1, J.2.2.2.2.2.2.2.2.2.2.2.1, J.2.2.2.2.2.2.2.2.2.2.2.2.1, J.2.2.2.2.2.2.2.2.2.2.2.2.2.1, v, J.2.2.2.2.2.2.2.2.2.2.2.2.2.2.2.1, J.2.2.2.2.2.2.2.2.2.2.2.2.2.2.2.2.1, J.2.2.2.2.2.2.2.2.2.2.2.2.2.2.2.2.2))
abbrev MJ.mMost (J : MJ) : (Nat → Int32) := J.2.2.2.2.2.2.2.2.2.2.2.2.2.2.2.1
abbrev MJ.mMost' (J : MJ) (v : (Nat → Int32)) : MJ := (J.1, (J.2.1, J.2.2.1, J.2.2.2.1, J.2.2.2.2.1, J.2.2.2.2.2.1, J.2.2.2.2.2.2.1, J.2.2.2.2.2.2.2.1, J.2.2.2.2.2.2.2.2.1, J.2.2.2.2.2.2.2.2.2.1, J.2.2.2.2.2.2.2.2.2.2.1, J.2.2.2.2.2.2.2.2.2.2.2.1, J.2.2.2.2.2.2.2.2.2.2.2.2.1, J.2.2.2.2.2.2.2.2.2.2.2.2.2.1, J.2.2.2.2.2.2.2.2.2.2.2.2.2.2.1, v, J.2.2.2.2.2.2.2.2.2.2.2.2.2.2.2.2.1, J.2.2.2.2.2.2.2.2.2.2.2.2.2.2.2.2.2))
abbrev MJ.mFw (J : MJ) : (Nat → Int32) := J.2.2.2.2.2.2.2.2.2.2.2.2.2.2.2.2.1
abbrev MJ.mFw' (J : MJ) (v : (Nat → Int32)) : MJ := (J.1, (J.2.1, J.2.2.1, J.2.2.2.1, J.2.2.2.2.1, J.2.2.2.2.2.1, J.2.2.2.2.2.2.1, J.2.2.2.2.2.2.2.1, J.2.2.2.2.2.2.2.2.1, J.2.2.2.2.2.2.2.2.2.1, J.2.2.2.2.2.2.2.2.2.2.1, J.2.2.2.2.2.2.2.2.2.2.2.1, J.2.2.2.2.2.2.2.2.2.2.2.2.1, J.2.2.2.2.2.2.2.2.2.2.2.2.2.1, J.2.2.2.2.2.2.2.2.2.2.2.2.2.2.1, J.2.2.2.2.2.2.2.2.2.2.2.2.2.2.2.1, v, J.2.2.2.2.2.2.2.2.2.2.2.2.2.2.2.2.2))
abbrev MJ.mFn (J : MJ) : (Nat → Int32) := J.2.2.2.2.2.2.2.2.2.2.2.2.2.2.2.2.2
abbrev MJ.mFn' (J : MJ) (v : (Nat → Int32)) : MJ := (J.1, (J.2.1, J.2.2.1, J.2.2.2.1, J.2.2.2.2.1, J.2.2.2.2.2.1, J.2.2.2.2.2.2.1, J.2.2.2.2.2.2.2.1, J.2.2.2.2.2.2.2.2.1, J.2.2.2.2.2.2.2.2.2.1, J.2.2.2.2.2.2.2.2.2.2.1, J.2.2.2.2.2.2.2.2.2.2.2.1, J.2.2.2.2.2.2.2.2.2.2.2.2.1, J.2.2.2.2.2.2.2.2.2.2.2.2.2.1, J.2.2.2.2.2.2.2.2.2.2.2.2.2.2.1, J.2.2.2.2.2.2.2.2.2.2.2.2.2.2.2.1, J.2.2.2.2.2.2.2.2.2.2.2.2.2.2.2.2.1, v))
abbrev AJ : Type := (Nat → Int32) × (Nat → Int32) × (Nat → Int32) × (Nat → Int32) × Int32
def TX00 : u_T := fun _ => ("", "", "", false)
abbrev kcl : List vw_C := [(RX0, TX0, 19), (RX1, TX1, 8), (RX2, TX2, 7), (RX3, TX3, 5), (RX4, TX4, 4), (RX5, TX00, 0), (RX6, TX00, 0), (RX7, TX00, 0), (RX8, TX00, 0), (RX9, TX00, 0), (RX10, TX00, 0), (RX11, TX11, 26), (RX12, TX12, 7)]
abbrev ktys (y : Nat → ClassId) : List (ClassId × FieldType) := [(y 0, .int), (y 1, .byte), (y 2, .boolean), (y 3, .object "KindStreets$Age"), (y 4, .object "KindStreets$Image"), (y 5, .object "KindStreets$Plain")]
/-- an age in the pool: its object and four arrays, five places each -/
def poolE (y : Nat → ClassId) (c : Nat → Nat) (P : Nat → AJ) (i : Nat) : va_E := match i % 5 with
  | 0 => .inr (3, [.ref (c (40 + i)), .ref (c (41 + i)), .ref (c (42 + i)), .ref (c (43 + i)), .int (P (i / 5)).2.2.2.2])
  | 1 => .inl (y 1, 9, .inl (P (i / 5)).1)
  | 2 => .inl (y 1, 9, .inl (P (i / 5)).2.1)
  | 3 => .inl (y 1, 9, .inl (P (i / 5)).2.2.1)
  | _ => .inl (y 0, 6, .inl (P (i / 5)).2.2.2.1)
def poolW (y : Nat → ClassId) (c : Nat → Nat) (P : Nat → AJ) : va_W := (List.range 160).map (fun i => (c (39 + i), poolE y c P i))
def cellsX (y : Nat → ClassId) (c : Nat → Nat) (J : XJ) : va_W :=
  (c 0, .inr (0, [.ref (c 1), .ref (c 20), .ref (c 18), .int J.kTyped, .ref (c 19), .ref (c 7), .ref (c 26), .int J.kUndos, .ref (c 27), .ref (c 12), .ref (c 13), .ref (c 14), .ref (c 15), .int J.kMostG, .ref (c 16), .ref (c 17), .int J.kMM, .ref (c 28), .long J.kTrace])) ::
  (c 1, .inr (1, [.int J.tYards, .int J.tStreets, .ref (c 2), .ref (c 3), .ref (c 4), .int J.tCitizens, .ref (c 5), .ref (c 6)])) ::
  (c 2, .inl (y 0, 9, .inl J.tOne)) ::
  (c 3, .inl (y 0, 9, .inl J.tOther)) ::
  (c 4, .inl (y 0, 9, .inl J.tOld)) ::
  (c 5, .inl (y 0, 6, .inl J.tHome)) ::
  (c 6, .inl (y 0, 6, .inl J.tWants)) ::
  (c 7, .inr (3, [.ref (c 8), .ref (c 9), .ref (c 10), .ref (c 11), .int J.nNight])) ::
  (c 8, .inl (y 1, 9, .inl J.nSeen)) ::
  (c 9, .inl (y 1, 9, .inl J.nHidden)) ::
  (c 10, .inl (y 1, 9, .inl J.nFaked)) ::
  (c 11, .inl (y 0, 6, .inl J.nHome)) ::
  (c 12, .inl (y 0, 9, .inl J.aGoing)) ::
  (c 13, .inl (y 0, 8, .inl J.aBy)) ::
  (c 14, .inl (y 0, 6, .inl J.aGiven)) ::
  (c 15, .inl (y 0, 6, .inl J.aBest)) ::
  (c 16, .inl (y 0, 4, .inl J.aMeas)) ::
  (c 17, .inl (y 2, 4, .inl J.aMNight)) ::
  (c 18, .inl (y 1, 120, .inl J.aText)) ::
  (c 19, .inr (2, [.int J.rNext, .int J.rBegun, .int J.rWord, .int J.rNumber, .int J.rStop, .int J.rItems, .ref (c 0)])) ::
  (c 20, .inr (1, [.int J.dYards, .int J.dStreets, .ref (c 21), .ref (c 22), .ref (c 23), .int J.dCitizens, .ref (c 24), .ref (c 25)])) ::
  (c 21, .inl (y 0, 9, .inl J.dOne)) ::
  (c 22, .inl (y 0, 9, .inl J.dOther)) ::
  (c 23, .inl (y 0, 9, .inl J.dOld)) ::
  (c 24, .inl (y 0, 6, .inl J.dHome)) ::
  (c 25, .inl (y 0, 6, .inl J.dWants)) ::
  (c 26, .inl (y 3, 10, .inr (.inr (.inr (.inr (fun k => some (c (39 + 5 * J.pm k)))))))) ::
  (c 27, .inl (y 4, 2, .inr (.inr (.inr (.inr (fun k => some (c (35 + 2 * k)))))))) ::
  (c 28, .inl (y 5, 6, .inr (.inr (.inr (.inr (fun k => some (c (29 + k)))))))) ::
  (c 29, .inr (5, [])) ::
  (c 30, .inr (6, [])) ::
  (c 31, .inr (7, [])) ::
  (c 32, .inr (8, [])) ::
  (c 33, .inr (9, [])) ::
  (c 34, .inr (10, [])) ::
  (c 35, .inr (4, [.ref (c 89), .ref (c 36), .int J.iUnd0, .int J.iKept0])) ::
  (c 36, .inl (y 3, 10, .inr (.inr (.inr (.inr (fun k => some (c (94 + 5 * k)))))))) ::
  (c 37, .inr (4, [.ref (c 144), .ref (c 38), .int J.iUnd1, .int J.iKept1])) ::
  (c 38, .inl (y 3, 10, .inr (.inr (.inr (.inr (fun k => some (c (149 + 5 * k)))))))) ::
  poolW y c J.pl
def headX (y : Nat → ClassId) (c : Nat → Nat) (J : XJ) : va_W :=
  [(c 0, .inr (0, [.ref (c 1), .ref (c 20), .ref (c 18), .int J.kTyped, .ref (c 19), .ref (c 7), .ref (c 26), .int J.kUndos, .ref (c 27), .ref (c 12), .ref (c 13), .ref (c 14), .ref (c 15), .int J.kMostG, .ref (c 16), .ref (c 17), .int J.kMM, .ref (c 28), .long J.kTrace])),
  (c 1, .inr (1, [.int J.tYards, .int J.tStreets, .ref (c 2), .ref (c 3), .ref (c 4), .int J.tCitizens, .ref (c 5), .ref (c 6)])),
  (c 2, .inl (y 0, 9, .inl J.tOne)),
  (c 3, .inl (y 0, 9, .inl J.tOther)),
  (c 4, .inl (y 0, 9, .inl J.tOld)),
  (c 5, .inl (y 0, 6, .inl J.tHome)),
  (c 6, .inl (y 0, 6, .inl J.tWants)),
  (c 7, .inr (3, [.ref (c 8), .ref (c 9), .ref (c 10), .ref (c 11), .int J.nNight])),
  (c 8, .inl (y 1, 9, .inl J.nSeen)),
  (c 9, .inl (y 1, 9, .inl J.nHidden)),
  (c 10, .inl (y 1, 9, .inl J.nFaked)),
  (c 11, .inl (y 0, 6, .inl J.nHome)),
  (c 12, .inl (y 0, 9, .inl J.aGoing)),
  (c 13, .inl (y 0, 8, .inl J.aBy)),
  (c 14, .inl (y 0, 6, .inl J.aGiven)),
  (c 15, .inl (y 0, 6, .inl J.aBest)),
  (c 16, .inl (y 0, 4, .inl J.aMeas)),
  (c 17, .inl (y 2, 4, .inl J.aMNight)),
  (c 18, .inl (y 1, 120, .inl J.aText)),
  (c 19, .inr (2, [.int J.rNext, .int J.rBegun, .int J.rWord, .int J.rNumber, .int J.rStop, .int J.rItems, .ref (c 0)])),
  (c 20, .inr (1, [.int J.dYards, .int J.dStreets, .ref (c 21), .ref (c 22), .ref (c 23), .int J.dCitizens, .ref (c 24), .ref (c 25)])),
  (c 21, .inl (y 0, 9, .inl J.dOne)),
  (c 22, .inl (y 0, 9, .inl J.dOther)),
  (c 23, .inl (y 0, 9, .inl J.dOld)),
  (c 24, .inl (y 0, 6, .inl J.dHome)),
  (c 25, .inl (y 0, 6, .inl J.dWants)),
  (c 26, .inl (y 3, 10, .inr (.inr (.inr (.inr (fun k => some (c (39 + 5 * J.pm k)))))))),
  (c 27, .inl (y 4, 2, .inr (.inr (.inr (.inr (fun k => some (c (35 + 2 * k)))))))),
  (c 28, .inl (y 5, 6, .inr (.inr (.inr (.inr (fun k => some (c (29 + k)))))))),
  (c 29, .inr (5, [])),
  (c 30, .inr (6, [])),
  (c 31, .inr (7, [])),
  (c 32, .inr (8, [])),
  (c 33, .inr (9, [])),
  (c 34, .inr (10, [])),
  (c 35, .inr (4, [.ref (c 89), .ref (c 36), .int J.iUnd0, .int J.iKept0])),
  (c 36, .inl (y 3, 10, .inr (.inr (.inr (.inr (fun k => some (c (94 + 5 * k)))))))),
  (c 37, .inr (4, [.ref (c 144), .ref (c 38), .int J.iUnd1, .int J.iKept1])),
  (c 38, .inl (y 3, 10, .inr (.inr (.inr (.inr (fun k => some (c (149 + 5 * k))))))))]
def ageW (y : Nat → ClassId) (a : Nat → Nat) (A : AJ) : va_W := [(a 0, .inr (3, [.ref (a 1), .ref (a 2), .ref (a 3), .ref (a 4), .int A.2.2.2.2])), (a 1, .inl (y 1, 9, .inl A.1)), (a 2, .inl (y 1, 9, .inl A.2.1)), (a 3, .inl (y 1, 9, .inl A.2.2.1)), (a 4, .inl (y 0, 6, .inl A.2.2.2.1))]
def cellsM (y : Nat → ClassId) (c : Nat → Nat) (J : MJ) : va_W :=
  [(c 0, .inr (11, [.ref (c 1), .int J.mTyped, .ref (c 2), .ref (c 3), .ref (c 4), .ref (c 5), .ref (c 6), .ref (c 7), .ref (c 8), .ref (c 9), .int J.mAt, .int J.mPlace, .int J.mSort, .int J.mValue, .int J.mWrong, .int J.mItems, .ref (c 10), .ref (c 11), .ref (c 12), .ref (c 13), .ref (c 14), .ref (c 15), .ref (c 16), .ref (c 17), .int J.mFacts, .long J.mTrace])),
  (c 1, .inl (y 1, 120, .inl J.mText)),
  (c 2, .inl (y 0, 2, .inl J.mYards)),
  (c 3, .inl (y 0, 2, .inl J.mStreets)),
  (c 4, .inl (y 0, 18, .inl J.mFrom)),
  (c 5, .inl (y 0, 18, .inl J.mTo)),
  (c 6, .inl (y 0, 18, .inl J.mOld)),
  (c 7, .inl (y 0, 2, .inl J.mPeople)),
  (c 8, .inl (y 0, 12, .inl J.mHome)),
  (c 9, .inl (y 0, 12, .inl J.mWants)),
  (c 10, .inl (y 0, 34, .inl J.mNow)),
  (c 11, .inl (y 0, 3, .inl J.mKnown)),
  (c 12, .inl (y 0, 1020, .inl J.mBefore)),
  (c 13, .inl (y 0, 68, .inl J.mStore)),
  (c 14, .inl (y 2, 2, .inl J.mKept)),
  (c 15, .inl (y 0, 3584, .inl J.mMost)),
  (c 16, .inl (y 0, 4, .inl J.mFw)),
  (c 17, .inl (y 0, 4, .inl J.mFn))]
/-- which addresses are a side's own -/
def XA (c : Nat → Nat) : Nat → Prop := fun q => ∃ k, k < 199 ∧ q = c k
def MA (c : Nat → Nat) : Nat → Prop := fun q => ∃ k, k < 18 ∧ q = c k
/-- what all methods take along: classes, array classes, the nest's words -/
def CX (D : va_G) (y : Nat → ClassId) (U : State) : Prop := va_K D kcl (ktys y) U ∧ NW U
theorem CX.warm {D : va_G} {y : Nat → ClassId} {s U : State} (hW : s.WarmedH U.vm) (h : CX D y s) : CX D y U := ⟨va_K.moved hW.alike h.1, h.2.warm hW⟩
theorem CX.call {D : va_G} {y : Nat → ClassId} {U : State} {g : JFrame} {mk : MethodId} {a : Array Value} (h : CX D y U) : CX D y (U.calling g mk a) := ⟨va_K.moved (u := U) (U := U.calling g mk a) (Vm.Alike.refl U.vm) h.1, NW.same (s := U) (U := U.calling g mk a) rfl h.2⟩
/-- a world that is only read -/
def WR (D : va_G) (y : Nat → ClassId) (ws : va_W) (U : State) : Prop := CX D y U ∧ va_P D kcl ws U.heap
/-- a world that is written -/
def WH (D : va_G) (y : Nat → ClassId) (A : Nat → Prop) (ws : va_W) (U : State) : Prop := CX D y U ∧ va_P D kcl ws U.heap ∧ va_D A ws
theorem preR {D : va_G} {y : Nat → ClassId} {ws : va_W} {s : State} {H : Heap} {As : List Value} (hC : CX D y s) (hP : va_P D kcl ws H) : PreS s H (va_Pc As (WR D y ws)) As :=
  ⟨fun _ _ _ _ q => ⟨q.1, q.2.1.call, q.2.2⟩, fun U hU hW => ⟨rfl, hC.warm hW, by rw [hU]; exact hP⟩⟩
theorem preVR {D : va_G} {y : Nat → ClassId} {ws : va_W} {s : State} {H : Heap} {b : Nat} {As : List Value} (hC : CX D y s) (hP : va_P D kcl ws H) (ci q0 : Nat) {q : vw_C} {fs : List Value} (hc : kcl[ci]? = some q) (he : ws[q0]? = some (b, .inr (ci, fs))) : PreV s H q.1 b (va_Pc (.ref b :: As) (WR D y ws)) As :=
  ⟨fun _ _ _ _ q => ⟨q.1, q.2.1.call, q.2.2⟩, va_recv hC.1 hP hc he, fun U hU hW => ⟨rfl, hC.warm hW, by rw [hU]; exact hP⟩⟩
theorem preV0 {D : va_G} {y : Nat → ClassId} {ws : va_W} {s : State} {H : Heap} {b : Nat} {As : List Value} (hC : CX D y s) (hP : va_P D kcl ws H) (ci q0 : Nat) {q : vw_C} {fs : List Value} (hc : kcl[ci]? = some q) (he : ws[q0]? = some (b, .inr (ci, fs))) : PreV s H q.1 b (va_Pc (.ref b :: As) (fun _ => True)) As :=
  ⟨fun _ _ _ _ q => ⟨q.1, trivial⟩, va_recv hC.1 hP hc he, fun U hU hW => ⟨rfl, trivial⟩⟩
theorem preH {D : va_G} {y : Nat → ClassId} {A : Nat → Prop} {ws : va_W} {s : State} {H : Heap} {As : List Value} (hC : CX D y s) (hP : va_P D kcl ws H) (hD : va_D A ws) : PreS s H (va_Pc As (WH D y A ws)) As :=
  ⟨fun _ _ _ _ q => ⟨q.1, q.2.1.call, q.2.2⟩, fun U hU hW => ⟨rfl, hC.warm hW, by rw [hU]; exact hP, hD⟩⟩
theorem preVH {D : va_G} {y : Nat → ClassId} {A : Nat → Prop} {ws : va_W} {s : State} {H : Heap} {b : Nat} {As : List Value} (hC : CX D y s) (hP : va_P D kcl ws H) (hD : va_D A ws) (ci q0 : Nat) {q : vw_C} {fs : List Value} (hc : kcl[ci]? = some q) (he : ws[q0]? = some (b, .inr (ci, fs))) : PreV s H q.1 b (va_Pc (.ref b :: As) (WH D y A ws)) As :=
  ⟨fun _ _ _ _ q => ⟨q.1, q.2.1.call, q.2.2⟩, va_recv hC.1 hP hc he, fun U hU hW => ⟨rfl, hC.warm hW, by rw [hU]; exact hP, hD⟩⟩
/-! the town as both sides know it -/
abbrev St : Type := (Nat × Nat × Nat) × ((Nat → Nat) × (Nat → Nat) × (Nat → Nat)) × (Nat → Nat) × (Nat × (Nat → Nat → Nat)) × ((Nat → Nat) × (Nat → Nat → Nat) × (Nat → Nat) × (Nat → Nat → Nat → Nat)) × (Nat × (Nat → Nat)) × (Nat × (Nat → Nat) × (Nat → Nat)) × Int64
abbrev St.yds (S : St) : Nat := S.1.1
abbrev St.str (S : St) : Nat := S.1.2.1
abbrev St.ppl (S : St) : Nat := S.1.2.2
abbrev St.one (S : St) : Nat → Nat := S.2.1.1
abbrev St.oth (S : St) : Nat → Nat := S.2.1.2.1
abbrev St.wnt (S : St) : Nat → Nat := S.2.1.2.2
abbrev St.now (S : St) : Nat → Nat := S.2.2.1
abbrev St.und (S : St) : Nat := S.2.2.2.1.1
abbrev St.bef (S : St) : Nat → Nat → Nat := S.2.2.2.1.2
abbrev St.ikept (S : St) : Nat → Nat := S.2.2.2.2.1.1
abbrev St.iage (S : St) : Nat → Nat → Nat := S.2.2.2.2.1.2.1
abbrev St.iund (S : St) : Nat → Nat := S.2.2.2.2.1.2.2.1
abbrev St.ibef (S : St) : Nat → Nat → Nat → Nat := S.2.2.2.2.1.2.2.2
abbrev St.typed (S : St) : Nat := S.2.2.2.2.2.1.1
abbrev St.text (S : St) : Nat → Nat := S.2.2.2.2.2.1.2
abbrev St.facts (S : St) : Nat := S.2.2.2.2.2.2.1.1
abbrev St.fw (S : St) : Nat → Nat := S.2.2.2.2.2.2.1.2.1
abbrev St.fn (S : St) : Nat → Nat := S.2.2.2.2.2.2.1.2.2
abbrev St.trace (S : St) : Int64 := S.2.2.2.2.2.2.2
def AgIn (S : St) (a : Nat → Nat) : Prop :=
  (a 0 ≤ 1) ∧
  (∀ s, s < S.str → a (1 + s) ≤ 9) ∧
  (∀ s, s < S.str → a (10 + s) ≤ 9) ∧
  (∀ s, s < S.str → a (19 + s) ≤ 9) ∧
  (∀ p, p < S.ppl → a (28 + p) < S.str)
theorem AgIn.night {S : St} {a : Nat → Nat} (h : AgIn S a) : a 0 ≤ 1 := h.1
theorem AgIn.seen {S : St} {a : Nat → Nat} (h : AgIn S a) : ∀ s, s < S.str → a (1 + s) ≤ 9 := h.2.1
theorem AgIn.hidden {S : St} {a : Nat → Nat} (h : AgIn S a) : ∀ s, s < S.str → a (10 + s) ≤ 9 := h.2.2.1
theorem AgIn.faked {S : St} {a : Nat → Nat} (h : AgIn S a) : ∀ s, s < S.str → a (19 + s) ≤ 9 := h.2.2.2.1
theorem AgIn.home {S : St} {a : Nat → Nat} (h : AgIn S a) : ∀ p, p < S.ppl → a (28 + p) < S.str := h.2.2.2.2
def StOk (S : St) : Prop :=
  (2 ≤ S.yds ∧ S.yds ≤ 8) ∧
  (S.str ≤ 9) ∧
  (S.ppl ≤ 6) ∧
  (∀ s, s < S.str → S.one s < S.yds) ∧
  (∀ s, s < S.str → S.oth s < S.yds) ∧
  (∀ s, s < S.str → S.one s ≠ S.oth s) ∧
  (∀ p, p < S.ppl → 1 ≤ S.wnt p ∧ S.wnt p ≤ 10) ∧
  (AgIn S S.now) ∧
  (S.und ≤ 10) ∧
  (∀ k, k < S.und → AgIn S (S.bef k)) ∧
  (∀ i, i < 2 → S.ikept i ≤ 1) ∧
  (∀ i, i < 2 → S.ikept i = 1 → AgIn S (S.iage i)) ∧
  (∀ i, i < 2 → S.ikept i = 1 → S.iund i ≤ 10) ∧
  (∀ i, i < 2 → S.ikept i = 1 → ∀ k, k < S.iund i → AgIn S (S.ibef i k)) ∧
  (S.typed ≤ 120) ∧
  (∀ k, k < S.typed → S.text k < 256) ∧
  (S.facts ≤ 4) ∧
  (∀ k, k < S.facts → 1 ≤ S.fw k ∧ S.fw k ≤ 10) ∧
  (∀ k, k < S.facts → S.fn k ≤ 1)
theorem StOk.yds {S : St} (h : StOk S) : 2 ≤ S.yds ∧ S.yds ≤ 8 := h.1
theorem StOk.str {S : St} (h : StOk S) : S.str ≤ 9 := h.2.1
theorem StOk.ppl {S : St} (h : StOk S) : S.ppl ≤ 6 := h.2.2.1
theorem StOk.one {S : St} (h : StOk S) : ∀ s, s < S.str → S.one s < S.yds := h.2.2.2.1
theorem StOk.oth {S : St} (h : StOk S) : ∀ s, s < S.str → S.oth s < S.yds := h.2.2.2.2.1
theorem StOk.dif {S : St} (h : StOk S) : ∀ s, s < S.str → S.one s ≠ S.oth s := h.2.2.2.2.2.1
theorem StOk.wnt {S : St} (h : StOk S) : ∀ p, p < S.ppl → 1 ≤ S.wnt p ∧ S.wnt p ≤ 10 := h.2.2.2.2.2.2.1
theorem StOk.now {S : St} (h : StOk S) : AgIn S S.now := h.2.2.2.2.2.2.2.1
theorem StOk.und {S : St} (h : StOk S) : S.und ≤ 10 := h.2.2.2.2.2.2.2.2.1
theorem StOk.bef {S : St} (h : StOk S) : ∀ k, k < S.und → AgIn S (S.bef k) := h.2.2.2.2.2.2.2.2.2.1
theorem StOk.ikept {S : St} (h : StOk S) : ∀ i, i < 2 → S.ikept i ≤ 1 := h.2.2.2.2.2.2.2.2.2.2.1
theorem StOk.iage {S : St} (h : StOk S) : ∀ i, i < 2 → S.ikept i = 1 → AgIn S (S.iage i) := h.2.2.2.2.2.2.2.2.2.2.2.1
theorem StOk.iund {S : St} (h : StOk S) : ∀ i, i < 2 → S.ikept i = 1 → S.iund i ≤ 10 := h.2.2.2.2.2.2.2.2.2.2.2.2.1
theorem StOk.ibef {S : St} (h : StOk S) : ∀ i, i < 2 → S.ikept i = 1 → ∀ k, k < S.iund i → AgIn S (S.ibef i k) := h.2.2.2.2.2.2.2.2.2.2.2.2.2.1
theorem StOk.typed {S : St} (h : StOk S) : S.typed ≤ 120 := h.2.2.2.2.2.2.2.2.2.2.2.2.2.2.1
theorem StOk.text {S : St} (h : StOk S) : ∀ k, k < S.typed → S.text k < 256 := h.2.2.2.2.2.2.2.2.2.2.2.2.2.2.2.1
theorem StOk.facts {S : St} (h : StOk S) : S.facts ≤ 4 := h.2.2.2.2.2.2.2.2.2.2.2.2.2.2.2.2.1
theorem StOk.fw {S : St} (h : StOk S) : ∀ k, k < S.facts → 1 ≤ S.fw k ∧ S.fw k ≤ 10 := h.2.2.2.2.2.2.2.2.2.2.2.2.2.2.2.2.2.1
theorem StOk.fn {S : St} (h : StOk S) : ∀ k, k < S.facts → S.fn k ≤ 1 := h.2.2.2.2.2.2.2.2.2.2.2.2.2.2.2.2.2.2
def AgOk (S : St) (a : Nat → Nat) (A : AJ) : Prop :=
  (∀ s, s < S.str → A.1 s = nI (a (1 + s))) ∧
  (∀ s, s < S.str → A.2.1 s = nI (a (10 + s))) ∧
  (∀ s, s < S.str → A.2.2.1 s = nI (a (19 + s))) ∧
  (∀ p, p < S.ppl → A.2.2.2.1 p = nI (a (28 + p))) ∧
  (A.2.2.2.2 = nI (a 0))
theorem AgOk.seen {S : St} {a : Nat → Nat} {A : AJ} (h : AgOk S a A) : ∀ s, s < S.str → A.1 s = nI (a (1 + s)) := h.1
theorem AgOk.hidden {S : St} {a : Nat → Nat} {A : AJ} (h : AgOk S a A) : ∀ s, s < S.str → A.2.1 s = nI (a (10 + s)) := h.2.1
theorem AgOk.faked {S : St} {a : Nat → Nat} {A : AJ} (h : AgOk S a A) : ∀ s, s < S.str → A.2.2.1 s = nI (a (19 + s)) := h.2.2.1
theorem AgOk.home {S : St} {a : Nat → Nat} {A : AJ} (h : AgOk S a A) : ∀ p, p < S.ppl → A.2.2.2.1 p = nI (a (28 + p)) := h.2.2.2.1
theorem AgOk.night {S : St} {a : Nat → Nat} {A : AJ} (h : AgOk S a A) : A.2.2.2.2 = nI (a 0) := h.2.2.2.2
def AFit (A : AJ) : Prop :=
  (sb_Fit A.1) ∧
  (sb_Fit A.2.1) ∧
  (sb_Fit A.2.2.1) ∧
  (A.2.2.2.2 = 0 ∨ A.2.2.2.2 = 1)
theorem AFit.seen {A : AJ} (h : AFit A) : sb_Fit A.1 := h.1
theorem AFit.hidden {A : AJ} (h : AFit A) : sb_Fit A.2.1 := h.2.1
theorem AFit.faked {A : AJ} (h : AFit A) : sb_Fit A.2.2.1 := h.2.2.1
theorem AFit.nit {A : AJ} (h : AFit A) : A.2.2.2.2 = 0 ∨ A.2.2.2.2 = 1 := h.2.2.2
def XOk (S : St) (J : XJ) : Prop :=
  (J.tYards = nI S.yds) ∧
  (J.tStreets = nI S.str) ∧
  (J.tCitizens = nI S.ppl) ∧
  (∀ s, s < S.str → J.tOne s = nI (S.one s)) ∧
  (∀ s, s < S.str → J.tOther s = nI (S.oth s)) ∧
  (∀ p, p < S.ppl → J.tWants p = nI (S.wnt p)) ∧
  (AgOk S S.now J.nw) ∧
  (J.kUndos = nI S.und) ∧
  (∀ k, k < S.und → AgOk S (S.bef k) (J.pl (J.pm k))) ∧
  (∀ k, k < 10 → J.pm k < 10) ∧
  (∀ k k2, k < 10 → k2 < 10 → J.pm k = J.pm k2 → k = k2) ∧
  (S.ikept 0 = 1 → J.iUnd0 = nI (S.iund 0)) ∧
  (J.iKept0 = nI (S.ikept 0)) ∧
  (S.ikept 1 = 1 → J.iUnd1 = nI (S.iund 1)) ∧
  (J.iKept1 = nI (S.ikept 1)) ∧
  (∀ i, i < 2 → S.ikept i = 1 → AgOk S (S.iage i) (J.pl (10 + 11 * i))) ∧
  (∀ i, i < 2 → S.ikept i = 1 → ∀ k, k < S.iund i → AgOk S (S.ibef i k) (J.pl (10 + 11 * i + 1 + k))) ∧
  (AFit J.nw) ∧
  (∀ k, AFit (J.pl k)) ∧
  (J.kTyped = nI S.typed) ∧
  (∀ k, k < S.typed → J.aText k = sb_b (S.text k)) ∧
  (J.kMM = nI S.facts) ∧
  (∀ k, k < S.facts → J.aMeas k = nI (S.fw k)) ∧
  (∀ k, k < S.facts → J.aMNight k = nI (S.fn k)) ∧
  (J.kTrace = S.trace)
theorem XOk.yds {S : St} {J : XJ} (h : XOk S J) : J.tYards = nI S.yds := h.1
theorem XOk.str {S : St} {J : XJ} (h : XOk S J) : J.tStreets = nI S.str := h.2.1
theorem XOk.ppl {S : St} {J : XJ} (h : XOk S J) : J.tCitizens = nI S.ppl := h.2.2.1
theorem XOk.one {S : St} {J : XJ} (h : XOk S J) : ∀ s, s < S.str → J.tOne s = nI (S.one s) := h.2.2.2.1
theorem XOk.oth {S : St} {J : XJ} (h : XOk S J) : ∀ s, s < S.str → J.tOther s = nI (S.oth s) := h.2.2.2.2.1
theorem XOk.wnt {S : St} {J : XJ} (h : XOk S J) : ∀ p, p < S.ppl → J.tWants p = nI (S.wnt p) := h.2.2.2.2.2.1
theorem XOk.now {S : St} {J : XJ} (h : XOk S J) : AgOk S S.now J.nw := h.2.2.2.2.2.2.1
theorem XOk.und {S : St} {J : XJ} (h : XOk S J) : J.kUndos = nI S.und := h.2.2.2.2.2.2.2.1
theorem XOk.bef {S : St} {J : XJ} (h : XOk S J) : ∀ k, k < S.und → AgOk S (S.bef k) (J.pl (J.pm k)) := h.2.2.2.2.2.2.2.2.1
theorem XOk.perm {S : St} {J : XJ} (h : XOk S J) : ∀ k, k < 10 → J.pm k < 10 := h.2.2.2.2.2.2.2.2.2.1
theorem XOk.pinj {S : St} {J : XJ} (h : XOk S J) : ∀ k k2, k < 10 → k2 < 10 → J.pm k = J.pm k2 → k = k2 := h.2.2.2.2.2.2.2.2.2.2.1
theorem XOk.und0 {S : St} {J : XJ} (h : XOk S J) : S.ikept 0 = 1 → J.iUnd0 = nI (S.iund 0) := h.2.2.2.2.2.2.2.2.2.2.2.1
theorem XOk.kept0 {S : St} {J : XJ} (h : XOk S J) : J.iKept0 = nI (S.ikept 0) := h.2.2.2.2.2.2.2.2.2.2.2.2.1
theorem XOk.und1 {S : St} {J : XJ} (h : XOk S J) : S.ikept 1 = 1 → J.iUnd1 = nI (S.iund 1) := h.2.2.2.2.2.2.2.2.2.2.2.2.2.1
theorem XOk.kept1 {S : St} {J : XJ} (h : XOk S J) : J.iKept1 = nI (S.ikept 1) := h.2.2.2.2.2.2.2.2.2.2.2.2.2.2.1
theorem XOk.age {S : St} {J : XJ} (h : XOk S J) : ∀ i, i < 2 → S.ikept i = 1 → AgOk S (S.iage i) (J.pl (10 + 11 * i)) := h.2.2.2.2.2.2.2.2.2.2.2.2.2.2.2.1
theorem XOk.ibef {S : St} {J : XJ} (h : XOk S J) : ∀ i, i < 2 → S.ikept i = 1 → ∀ k, k < S.iund i → AgOk S (S.ibef i k) (J.pl (10 + 11 * i + 1 + k)) := h.2.2.2.2.2.2.2.2.2.2.2.2.2.2.2.2.1
theorem XOk.fit {S : St} {J : XJ} (h : XOk S J) : AFit J.nw := h.2.2.2.2.2.2.2.2.2.2.2.2.2.2.2.2.2.1
theorem XOk.fits {S : St} {J : XJ} (h : XOk S J) : ∀ k, AFit (J.pl k) := h.2.2.2.2.2.2.2.2.2.2.2.2.2.2.2.2.2.2.1
theorem XOk.typed {S : St} {J : XJ} (h : XOk S J) : J.kTyped = nI S.typed := h.2.2.2.2.2.2.2.2.2.2.2.2.2.2.2.2.2.2.2.1
theorem XOk.text {S : St} {J : XJ} (h : XOk S J) : ∀ k, k < S.typed → J.aText k = sb_b (S.text k) := h.2.2.2.2.2.2.2.2.2.2.2.2.2.2.2.2.2.2.2.2.1
theorem XOk.facts {S : St} {J : XJ} (h : XOk S J) : J.kMM = nI S.facts := h.2.2.2.2.2.2.2.2.2.2.2.2.2.2.2.2.2.2.2.2.2.1
theorem XOk.fw {S : St} {J : XJ} (h : XOk S J) : ∀ k, k < S.facts → J.aMeas k = nI (S.fw k) := h.2.2.2.2.2.2.2.2.2.2.2.2.2.2.2.2.2.2.2.2.2.2.1
theorem XOk.fn {S : St} {J : XJ} (h : XOk S J) : ∀ k, k < S.facts → J.aMNight k = nI (S.fn k) := h.2.2.2.2.2.2.2.2.2.2.2.2.2.2.2.2.2.2.2.2.2.2.2.1
theorem XOk.trace {S : St} {J : XJ} (h : XOk S J) : J.kTrace = S.trace := h.2.2.2.2.2.2.2.2.2.2.2.2.2.2.2.2.2.2.2.2.2.2.2.2
def AgM (S : St) (a : Nat → Nat) (f : Nat → Int32) : Prop :=
  (f 0 = nI (a 0)) ∧
  (∀ s, s < S.str → f (1 + s) = nI (a (1 + s))) ∧
  (∀ s, s < S.str → f (10 + s) = nI (a (10 + s))) ∧
  (∀ s, s < S.str → f (19 + s) = nI (a (19 + s))) ∧
  (∀ p, p < S.ppl → f (28 + p) = nI (a (28 + p)))
theorem AgM.night {S : St} {a : Nat → Nat} {f : Nat → Int32} (h : AgM S a f) : f 0 = nI (a 0) := h.1
theorem AgM.seen {S : St} {a : Nat → Nat} {f : Nat → Int32} (h : AgM S a f) : ∀ s, s < S.str → f (1 + s) = nI (a (1 + s)) := h.2.1
theorem AgM.hidden {S : St} {a : Nat → Nat} {f : Nat → Int32} (h : AgM S a f) : ∀ s, s < S.str → f (10 + s) = nI (a (10 + s)) := h.2.2.1
theorem AgM.faked {S : St} {a : Nat → Nat} {f : Nat → Int32} (h : AgM S a f) : ∀ s, s < S.str → f (19 + s) = nI (a (19 + s)) := h.2.2.2.1
theorem AgM.home {S : St} {a : Nat → Nat} {f : Nat → Int32} (h : AgM S a f) : ∀ p, p < S.ppl → f (28 + p) = nI (a (28 + p)) := h.2.2.2.2
def MOk (S : St) (J : MJ) : Prop :=
  (J.mYards 0 = nI S.yds) ∧
  (J.mStreets 0 = nI S.str) ∧
  (J.mPeople 0 = nI S.ppl) ∧
  (∀ s, s < S.str → J.mFrom s = nI (S.one s)) ∧
  (∀ s, s < S.str → J.mTo s = nI (S.oth s)) ∧
  (∀ p, p < S.ppl → J.mWants p = nI (S.wnt p)) ∧
  (AgM S S.now J.mNow) ∧
  (J.mKnown 0 = nI S.und) ∧
  (∀ k, k < S.und → AgM S (S.bef k) (fun j => J.mBefore (34 * k + j))) ∧
  (∀ i, i < 2 → J.mKept i = nI (S.ikept i)) ∧
  (∀ i, i < 2 → S.ikept i = 1 → J.mKnown (1 + i) = nI (S.iund i)) ∧
  (∀ i, i < 2 → S.ikept i = 1 → AgM S (S.iage i) (fun j => J.mStore (34 * i + j))) ∧
  (∀ i, i < 2 → S.ikept i = 1 → ∀ k, k < S.iund i → AgM S (S.ibef i k) (fun j => J.mBefore (340 * (1 + i) + 34 * k + j))) ∧
  (J.mTyped = nI S.typed) ∧
  (∀ k, k < S.typed → J.mText k = sb_b (S.text k)) ∧
  (J.mFacts = nI S.facts) ∧
  (∀ k, k < S.facts → J.mFw k = nI (S.fw k)) ∧
  (∀ k, k < S.facts → J.mFn k = nI (S.fn k)) ∧
  (J.mTrace = S.trace)
theorem MOk.yds {S : St} {J : MJ} (h : MOk S J) : J.mYards 0 = nI S.yds := h.1
theorem MOk.str {S : St} {J : MJ} (h : MOk S J) : J.mStreets 0 = nI S.str := h.2.1
theorem MOk.ppl {S : St} {J : MJ} (h : MOk S J) : J.mPeople 0 = nI S.ppl := h.2.2.1
theorem MOk.one {S : St} {J : MJ} (h : MOk S J) : ∀ s, s < S.str → J.mFrom s = nI (S.one s) := h.2.2.2.1
theorem MOk.oth {S : St} {J : MJ} (h : MOk S J) : ∀ s, s < S.str → J.mTo s = nI (S.oth s) := h.2.2.2.2.1
theorem MOk.wnt {S : St} {J : MJ} (h : MOk S J) : ∀ p, p < S.ppl → J.mWants p = nI (S.wnt p) := h.2.2.2.2.2.1
theorem MOk.now {S : St} {J : MJ} (h : MOk S J) : AgM S S.now J.mNow := h.2.2.2.2.2.2.1
theorem MOk.und {S : St} {J : MJ} (h : MOk S J) : J.mKnown 0 = nI S.und := h.2.2.2.2.2.2.2.1
theorem MOk.bef {S : St} {J : MJ} (h : MOk S J) : ∀ k, k < S.und → AgM S (S.bef k) (fun j => J.mBefore (34 * k + j)) := h.2.2.2.2.2.2.2.2.1
theorem MOk.kept {S : St} {J : MJ} (h : MOk S J) : ∀ i, i < 2 → J.mKept i = nI (S.ikept i) := h.2.2.2.2.2.2.2.2.2.1
theorem MOk.iund {S : St} {J : MJ} (h : MOk S J) : ∀ i, i < 2 → S.ikept i = 1 → J.mKnown (1 + i) = nI (S.iund i) := h.2.2.2.2.2.2.2.2.2.2.1
theorem MOk.age {S : St} {J : MJ} (h : MOk S J) : ∀ i, i < 2 → S.ikept i = 1 → AgM S (S.iage i) (fun j => J.mStore (34 * i + j)) := h.2.2.2.2.2.2.2.2.2.2.2.1
theorem MOk.ibef {S : St} {J : MJ} (h : MOk S J) : ∀ i, i < 2 → S.ikept i = 1 → ∀ k, k < S.iund i → AgM S (S.ibef i k) (fun j => J.mBefore (340 * (1 + i) + 34 * k + j)) := h.2.2.2.2.2.2.2.2.2.2.2.2.1
theorem MOk.typed {S : St} {J : MJ} (h : MOk S J) : J.mTyped = nI S.typed := h.2.2.2.2.2.2.2.2.2.2.2.2.2.1
theorem MOk.text {S : St} {J : MJ} (h : MOk S J) : ∀ k, k < S.typed → J.mText k = sb_b (S.text k) := h.2.2.2.2.2.2.2.2.2.2.2.2.2.2.1
theorem MOk.facts {S : St} {J : MJ} (h : MOk S J) : J.mFacts = nI S.facts := h.2.2.2.2.2.2.2.2.2.2.2.2.2.2.2.1
theorem MOk.fw {S : St} {J : MJ} (h : MOk S J) : ∀ k, k < S.facts → J.mFw k = nI (S.fw k) := h.2.2.2.2.2.2.2.2.2.2.2.2.2.2.2.2.1
theorem MOk.fn {S : St} {J : MJ} (h : MOk S J) : ∀ k, k < S.facts → J.mFn k = nI (S.fn k) := h.2.2.2.2.2.2.2.2.2.2.2.2.2.2.2.2.2.1
theorem MOk.trace {S : St} {J : MJ} (h : MOk S J) : J.mTrace = S.trace := h.2.2.2.2.2.2.2.2.2.2.2.2.2.2.2.2.2.2
