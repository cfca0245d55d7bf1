/-! PURE WORDS of the component's rows -/
def rwL (w up dn k ro : Nat) : Bool := decide (zclr ((up >>> (w * k)) &&& (2 ^ w - 1)) ro = 0) && decide ((dn >>> (w * k)) &&& ro = 0)
def wiN (w le rg : Nat) (fa ff : Nat → Int) (k ro : Nat) : Nat → Int
  | 0 => 0
  | c + 1 => wiN w le rg fa ff k ro c - ff (w * k + c) * spn ro c - (if 0 ≤ oth w le rg (w * k + c) false then fa (w * k + c) * spn ro c * spn ro ((oth w le rg (w * k + c) false).toNat % w) else 0)
def btN (w : Nat) (fl : Nat → Int) (k ro to : Nat) : Nat → Int
  | 0 => 0
  | c + 1 => btN w fl k ro to c - fl (w * k + c) * spn ro c * spn to c
