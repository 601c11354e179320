set_option maxRecDepth 100000
/-! the law's own entry -/
abbrev cL_law : ByteArray := code
