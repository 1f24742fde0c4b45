/-! the classes of which there are objects, by number; printed by gen.py -/
abbrev clT : List vw_C := [(RX0, TX0, 28), (RX1, TX1, 14), (RX2, TX2, 4), (RX3, TX3, 2), (RX4, TX4, 6), (RX5, TX5, 58), (RX7, TX7, 8), (RX8, TX8, 7), (RX9, TX9, 3), (RX11, TX11, 1), (RX12, TX12, 1), (RX13, TX13, 3), (RX15, TX15, 3), (RX16, TX16, 1), (RX17, TX17, 2), (RX18, TX18, 5), (RX19, TX19, 1), (RX20, TX20, 8), (RJ2, TJ2, 3)]
def tyT : Nat → Nat → FieldType := fun c => match c with
  | 0 => tyX0
  | 1 => tyX1
  | 2 => tyX2
  | 3 => tyX3
  | 4 => tyX4
  | 5 => tyX5
  | 6 => tyX7
  | 7 => tyX8
  | 8 => tyX9
  | 9 => tyX11
  | 10 => tyX12
  | 11 => tyX13
  | 12 => tyX15
  | 13 => tyX16
  | 14 => tyX17
  | 15 => tyX18
  | 16 => tyX19
  | 17 => tyX20
  | _ => tyJ2
def stT : List (String × Nat × String) := [("LostLanes$LawReader", 20, "turns"), ("LostLanes$LawReader", 26, "says"), ("LostLanes$LawReader", 28, "bars"), ("LostLanes$Reader", 152, "["), ("LostLanes$Reader", 154, "]"), ("LostLanes$LawReader", 65, "child"), ("LostLanes$LawReader", 70, "age"), ("LostLanes$LawReader", 72, "lane"), ("LostLanes$LawReader", 74, "long"), ("LostLanes$LawReader", 76, "sight"), ("LostLanes$LawReader", 78, "corner"), ("LostLanes$LawReader", 80, "last"), ("LostLanes$LawReader", 82, "hour"), ("LostLanes$LawReader", 84, "mood"), ("LostLanes$OrderReader", 86, "hour"), ("LostLanes$OrderReader", 91, "done"), ("LostLanes$OrderReader", 93, "latest"), ("LostLanes$OrderReader", 95, "named"), ("LostLanes$OrderReader", 97, "kids"), ("LostLanes$OrderReader", 99, "at"), ("LostLanes$OrderReader", 101, "plate"), ("LostLanes$Reader", 143, "*"), ("LostLanes$Reader", 145, "/"), ("LostLanes$Reader", 147, "%"), ("LostLanes$Reader", 133, "+"), ("LostLanes$Reader", 135, "-"), ("LostLanes$LawReader", 48, "if"), ("LostLanes$Reader", 91, "not"), ("LostLanes$Reader", 101, "("), ("LostLanes$Reader", 109, ")"), ("LostLanes$Reader", 119, "<"), ("LostLanes$Reader", 121, ">"), ("LostLanes$Reader", 123, "="), ("LostLanes$Reader", 86, "and"), ("LostLanes$Reader", 66, "or"), ("LostLanes$OrderReader", 20, "wander"), ("LostLanes$OrderReader", 26, "cry"), ("LostLanes$OrderReader", 28, "lead"), ("LostLanes$OrderReader", 30, "pass"), ("LostLanes$OrderReader", 51, "to"), ("LostLanes$OrderReader", 60, "times"), ("LostLanes$OrderReader", 72, "if"), ("LostLanes$Reader", 57, ";")]
