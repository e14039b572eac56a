theorem last_part : True := trivial
